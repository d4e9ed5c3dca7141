set_option maxRecDepth 100000
theorem aAbove_R {z : Int} (h : 0 ≤ z) (k : z ≤ 6) : 0 ≤ aAbove z ∧ (0 < z → aAbove z < z) ∧ aAbove z ≤ 3 := by
  unfold aAbove
  (repeat' split) <;> omega
theorem aUnd_up {z k : Int} (h : 0 < z ∧ z ≤ 6) (hk : 0 ≤ k) (hn : z ≠ k) : aUnd z k = aUnd (aAbove z) k := by
  unfold aUnd aAbove
  refine decide_eq_decide.mpr ?_
  rcases (show z = 1 ∨ z = 2 ∨ z = 3 ∨ z = 4 ∨ z = 5 ∨ z = 6 by omega) with rfl | rfl | rfl | rfl | rfl | rfl <;> simp <;> omega
set_option maxHeartbeats 4000000 in
theorem metX4_set {l : Launch} {X : gX} {mo : Nat} {ad : Nat → Nat} {S : mS} {a : aS} (hX : mX S a) (hA : aOK a) {v i : Int} {x : Int64} (hr0 : -2147483648 ≤ v ∧ v < 2147483648 ∧ -2147483648 ≤ i ∧ i < 2147483648) : Met l yX4_set (ws_ yX4_set cX4_set 7 (some FieldType.int)) ({ frames := 2, cells := 0, slots := 0, locals := 43 }) (mP X mo ad S [.ref mo, .int (zI v), .int (zI i), .long x]) (mQi X mo ad (fun u T => u = zI (opSet a v i x).1 ∧ mX T (opSet a v i x).2)) 0 0 (mA mo ad) := by
  refine Met.m (by decide) (Nat.le_of_ble_eq_true rfl) ?_
  intro p e s m below meth c ls hx hb hr hts hown hlocks hml hG hl
  have hl : lv_has ls 7 [(0, .ref mo), (1, .int (zI v)), (2, .int (zI i)), (3, .long x)] := hl
  by_cases hinv : 0 ≤ v ∧ v ≤ 7
  · obtain ⟨v1, rfl⟩ : ∃ n9 : Nat, v = n9 := ⟨v.toNat, by omega⟩
    have hshv := hX.2.2.1 v1 (by omega)
    have hokv := hA.2.1 v1
    rcases hsvv : aSv a v1 with _ | mv | ⟨sov, nv, fv⟩
    · rw [hsvv] at hshv
      have hshv : S.2.1 9 v1 = -1 := hshv
      refine lv_aload_n hx hb dX4_set_0 rfl (lv_at hl 0 rfl) ?_
      refine lv_iload_n hx hb dX4_set_1 rfl (lv_at hl 1 rfl) ?_
      refine m_ci (va_runV (As := [.int (zI (v1 : Int))]) (rest := []) ⟨hx, hb, hml, hown, hts⟩ (metX4_noRow hX hA (by omega) 3 (by unfold aBar; rw [if_neg (by omega)]; simp only [Int.toNat_natCast, hsvv])) (cwV 1 hts (lw_V q3435 q3437 qs44 q102 q3438) rfl rfl rfl (by decide +kernel) ⟨Nat.le_of_ble_eq_true rfl, Nat.le_of_ble_eq_true rfl⟩) (m_preV hG) rfl rfl hl.1 rfl (lv_room (Nat.le_of_ble_eq_true rfl)) dX4_set_2 ⟨Nat.le_of_ble_eq_true rfl, Nat.le_of_ble_eq_true rfl⟩) hG (fun r_1 S_2 H locs hp hG => ?_)
      obtain ⟨rfl, rfl⟩ := hp
      have hG : mW X mo ad S s H locs := hG
      refine g_topz (y := -3) (by decide) ?_
      refine lv_istore (lv' := [(5, .int (zI (-3))), (0, .ref mo), (1, .int (zI (v1 : Int))), (2, .int (zI i)), (3, .long x)]) hx hb dX4_set_5 hl (by decide) rfl (fun ls hl => ?_)
      refine lv_iload hx hb dX4_set_7 (lv_at hl 0 rfl) ?_
      refine g_ge (tgt := 19) hx hb dX4_set_9 (by decide) (by decide) (fun h1 => ?_) (fun h1 => ?_)
      · exfalso; omega
      · refine lv_aload_n hx hb dX4_set_12 rfl (lv_at hl 1 rfl) ?_
        refine lv_iload hx hb dX4_set_13 (lv_at hl 0 rfl) ?_
        refine g_topz (y := -((3 : Nat) : Int)) (by decide) ?_
        refine m_ci (va_runV (As := [.int (zI (-((3 : Nat) : Int)))]) (rest := []) ⟨hx, hb, hml, hown, hts⟩ (metX4_no 3 (by decide)) (cwV 1 hts (lw_V q3427 q3429 qs43 q102 q3430) rfl rfl rfl (by decide +kernel) ⟨Nat.le_of_ble_eq_true rfl, Nat.le_of_ble_eq_true rfl⟩) (m_preV hG) rfl rfl hl.1 rfl (lv_room (Nat.le_of_ble_eq_true rfl)) dX4_set_15 ⟨Nat.le_of_ble_eq_true rfl, Nat.le_of_ble_eq_true rfl⟩) hG (fun r_3 S_4 H locs hp hG => ?_)
        obtain ⟨rfl, rfl⟩ := hp
        have hG : mW X mo ad (mNo S 3) s H locs := hG
        exact m_iret hx hb hr hlocks hG (by first | (exfalso; omega) | exact (hX.noR 3 (by unfold opSet; (repeat (first | rw [if_pos (by omega)] | rw [if_neg (by omega)])); all_goals (try (simp only [Int.toNat_natCast, hsvv])); all_goals ((repeat (first | rw [if_pos (by omega)] | rw [if_neg (by omega)])) <;> rfl)))) ⟨Nat.le_of_ble_eq_true rfl, Nat.le_of_ble_eq_true rfl⟩ dX4_set_18
    · rw [hsvv] at hshv hokv
      have hshv : S.2.1 9 v1 = (mv : Nat) := hshv
      have hokv : mv < wM (aWd a) := hokv
      have hMv := hA.w.m
      refine lv_aload_n hx hb dX4_set_0 rfl (lv_at hl 0 rfl) ?_
      refine lv_iload_n hx hb dX4_set_1 rfl (lv_at hl 1 rfl) ?_
      refine m_ci (va_runV (As := [.int (zI (v1 : Int))]) (rest := []) ⟨hx, hb, hml, hown, hts⟩ (metX4_noRow hX hA (by omega) 2 (by unfold aBar; rw [if_neg (by omega)]; simp only [Int.toNat_natCast, hsvv])) (cwV 1 hts (lw_V q3435 q3437 qs44 q102 q3438) rfl rfl rfl (by decide +kernel) ⟨Nat.le_of_ble_eq_true rfl, Nat.le_of_ble_eq_true rfl⟩) (m_preV hG) rfl rfl hl.1 rfl (lv_room (Nat.le_of_ble_eq_true rfl)) dX4_set_2 ⟨Nat.le_of_ble_eq_true rfl, Nat.le_of_ble_eq_true rfl⟩) hG (fun r_5 S_6 H locs hp hG => ?_)
      obtain ⟨rfl, rfl⟩ := hp
      have hG : mW X mo ad S s H locs := hG
      refine g_topz (y := -2) (by decide) ?_
      refine lv_istore (lv' := [(5, .int (zI (-2))), (0, .ref mo), (1, .int (zI (v1 : Int))), (2, .int (zI i)), (3, .long x)]) hx hb dX4_set_5 hl (by decide) rfl (fun ls hl => ?_)
      refine lv_iload hx hb dX4_set_7 (lv_at hl 0 rfl) ?_
      refine g_ge (tgt := 19) hx hb dX4_set_9 (by decide) (by decide) (fun h2 => ?_) (fun h2 => ?_)
      · exfalso; omega
      · refine lv_aload_n hx hb dX4_set_12 rfl (lv_at hl 1 rfl) ?_
        refine lv_iload hx hb dX4_set_13 (lv_at hl 0 rfl) ?_
        refine g_topz (y := -((2 : Nat) : Int)) (by decide) ?_
        refine m_ci (va_runV (As := [.int (zI (-((2 : Nat) : Int)))]) (rest := []) ⟨hx, hb, hml, hown, hts⟩ (metX4_no 2 (by decide)) (cwV 1 hts (lw_V q3427 q3429 qs43 q102 q3430) rfl rfl rfl (by decide +kernel) ⟨Nat.le_of_ble_eq_true rfl, Nat.le_of_ble_eq_true rfl⟩) (m_preV hG) rfl rfl hl.1 rfl (lv_room (Nat.le_of_ble_eq_true rfl)) dX4_set_15 ⟨Nat.le_of_ble_eq_true rfl, Nat.le_of_ble_eq_true rfl⟩) hG (fun r_7 S_8 H locs hp hG => ?_)
        obtain ⟨rfl, rfl⟩ := hp
        have hG : mW X mo ad (mNo S 2) s H locs := hG
        exact m_iret hx hb hr hlocks hG (by first | (exfalso; omega) | exact (hX.noR 2 (by unfold opSet; (repeat (first | rw [if_pos (by omega)] | rw [if_neg (by omega)])); all_goals (try (simp only [Int.toNat_natCast, hsvv])); all_goals ((repeat (first | rw [if_pos (by omega)] | rw [if_neg (by omega)])) <;> rfl)))) ⟨Nat.le_of_ble_eq_true rfl, Nat.le_of_ble_eq_true rfl⟩ dX4_set_18
    · rw [hsvv] at hshv hokv
      obtain ⟨hshv, hlnv, helv⟩ := hshv
      have hokv : sov ≤ 3 ∧ nv ≤ 160 := hokv
      refine lv_aload_n hx hb dX4_set_0 rfl (lv_at hl 0 rfl) ?_
      refine lv_iload_n hx hb dX4_set_1 rfl (lv_at hl 1 rfl) ?_
      refine m_ci (va_runV (As := [.int (zI (v1 : Int))]) (rest := []) ⟨hx, hb, hml, hown, hts⟩ (metX4_noRow hX hA (by omega) 0 (by unfold aBar; rw [if_neg (by omega)]; simp only [Int.toNat_natCast, hsvv])) (cwV 1 hts (lw_V q3435 q3437 qs44 q102 q3438) rfl rfl rfl (by decide +kernel) ⟨Nat.le_of_ble_eq_true rfl, Nat.le_of_ble_eq_true rfl⟩) (m_preV hG) rfl rfl hl.1 rfl (lv_room (Nat.le_of_ble_eq_true rfl)) dX4_set_2 ⟨Nat.le_of_ble_eq_true rfl, Nat.le_of_ble_eq_true rfl⟩) hG (fun r_9 S_10 H locs hp hG => ?_)
      obtain ⟨rfl, rfl⟩ := hp
      have hG : mW X mo ad S s H locs := hG
      refine g_topz (y := 0) (by decide) ?_
      refine lv_istore (lv' := [(5, .int (zI 0)), (0, .ref mo), (1, .int (zI (v1 : Int))), (2, .int (zI i)), (3, .long x)]) hx hb dX4_set_5 hl (by decide) rfl (fun ls hl => ?_)
      refine lv_iload hx hb dX4_set_7 (lv_at hl 0 rfl) ?_
      refine g_ge (tgt := 19) hx hb dX4_set_9 (by decide) (by decide) (fun h3 => ?_) (fun h3 => ?_)
      · refine lv_iload_n hx hb dX4_set_19 rfl (lv_at hl 3 rfl) ?_
        refine lv_iconst (v := zI 0) hx hb dX4_set_20 (by decide +kernel) ?_
        refine lv_aload_n hx hb dX4_set_21 rfl (lv_at hl 1 rfl) ?_
        refine m_get 10 (by decide) (v := .ref (ad 10)) rfl hx hb hts hown hG (hts _ q3306) dX4_set_22 ?_
        refine lv_iload_n hx hb dX4_set_25 rfl (lv_at hl 2 rfl) ?_
        refine m_iald 10 rfl rfl (by decide) v1 (v := (nv : Int)) ⟨by omega, by show _ < 8; omega⟩ hlnv hx hb hG dX4_set_26 ?_
        refine lv_iconst (v := zI 1) hx hb dX4_set_27 (by decide +kernel) ?_
        refine g_isub hx hb dX4_set_28 ?_
        refine m_ci (va_runS (As := [.int (zI i), .int (zI 0), .int (zI ((nv : Int) - 1))]) (rest := []) ⟨hx, hb, hml, hown, hts⟩ (metX4_within (by omega)) (va_cwS 3 hts (lw_S q3424 q3425 q102 q3426) rfl rfl rfl (by decide +kernel) ⟨Nat.le_of_ble_eq_true rfl, Nat.le_of_ble_eq_true rfl⟩) (m_preS hG) rfl rfl hl.1 rfl (lv_room (Nat.le_of_ble_eq_true rfl)) dX4_set_29 ⟨Nat.le_of_ble_eq_true rfl, Nat.le_of_ble_eq_true rfl⟩) hG (fun r_11 S_12 H locs hp hG => ?_)
        obtain ⟨bw4, rfl, hbw4, rfl⟩ := hp
        have hG : mW X mo ad S s H locs := hG
        refine g_ne (tgt := 42) hx hb dX4_set_32 (by decide) (by omega) (fun h5 => ?_) (fun h5 => ?_)
        · obtain ⟨i1, rfl⟩ : ∃ n9 : Nat, i = n9 := ⟨i.toNat, by omega⟩
          refine lv_aload_n hx hb dX4_set_42 rfl (lv_at hl 1 rfl) ?_
          refine m_get 9 (by decide) (v := .ref (ad 9)) rfl hx hb hts hown hG (hts _ q3305) dX4_set_43 ?_
          refine lv_iload_n hx hb dX4_set_46 rfl (lv_at hl 2 rfl) ?_
          refine m_iald 9 rfl rfl (by decide) v1 (v := (100 + (sov : Int))) ⟨by omega, by show _ < 8; omega⟩ hshv hx hb hG dX4_set_47 ?_
          refine lv_bipush (v := zI 100) hx hb dX4_set_48 (by decide +kernel) ?_
          refine g_isub hx hb dX4_set_50 ?_
          refine lv_istore (lv' := [(6, .int (zI ((100 + (sov : Int)) - 100))), (5, .int (zI 0)), (0, .ref mo), (1, .int (zI (v1 : Int))), (2, .int (zI (i1 : Int))), (3, .long x)]) hx hb dX4_set_51 hl (by decide) rfl (fun ls hl => ?_)
          refine lv_aload_n hx hb dX4_set_53 rfl (lv_at hl 2 rfl) ?_
          refine m_get 11 (by decide) (v := .ref (ad 11)) rfl hx hb hts hown hG (hts _ q3307) dX4_set_54 ?_
          refine lv_sipush (v := zI 160) hx hb dX4_set_57 (by decide +kernel) ?_
          refine lv_iload_n hx hb dX4_set_60 rfl (lv_at hl 3 rfl) ?_
          refine g_imul hx hb dX4_set_61 ?_
          refine lv_iload_n hx hb dX4_set_62 rfl (lv_at hl 4 rfl) ?_
          refine g_iadd hx hb dX4_set_63 ?_
          refine lv_iload hx hb dX4_set_64 (lv_at hl 0 rfl) ?_
          refine g_ne (tgt := 76) hx hb dX4_set_66 (by decide) (by omega) (fun h6 => ?_) (fun h6 => ?_)
          · refine lv_iload hx hb dX4_set_76 (lv_at hl 0 rfl) ?_
            refine lv_iconst (v := zI 1) hx hb dX4_set_78 (by decide +kernel) ?_
            refine g_cne (tgt := 89) hx hb dX4_set_79 (by decide) (by omega) (fun h7 => ?_) (fun h7 => ?_)
            · refine lv_iload hx hb dX4_set_89 (lv_at hl 0 rfl) ?_
              refine lv_iconst (v := zI 2) hx hb dX4_set_91 (by decide +kernel) ?_
              refine g_cne (tgt := 101) hx hb dX4_set_92 (by decide) (by omega) (fun h8 => ?_) (fun h8 => ?_)
              · refine lv_lload_n hx hb dX4_set_101 rfl (lv_at hl 5 rfl) ?_
                refine m_last 11 rfl rfl ((160 * v1) + i1) ⟨by omega, by show _ < 1280; omega⟩ hx hb hG dX4_set_102 (fun H locs (hG : mW X mo ad (sL S 11 ((160 * v1) + i1) x) s H locs) => ?_)
                refine lv_iconst (v := zI 1) hx hb dX4_set_103 (by decide +kernel) ?_
                exact m_iret hx hb hr hlocks hG (by first | (exfalso; omega) | exact (by rw [show opSet a v1 i1 x = (1, aSet a v1 (some (.inr (sov, nv, va_up fv i1 (aTrunc sov x))))) from (by unfold opSet; rw [if_neg (by omega)]; simp only [Int.toNat_natCast, hsvv]; all_goals ((repeat (first | rw [if_pos (by omega)] | rw [if_neg (by omega)])) <;> rfl))]; exact ⟨rfl, hX.set hA (by omega) ⟨hshv, hlnv, fun i hi => by by_cases hii : i = i1; (subst hii; rw [sL_s, va_up_self]; unfold aTrunc; (repeat (first | rw [if_pos (by omega)] | rw [if_neg (by omega)])) <;> rfl); (rw [sL_n (by omega), va_up_ne _ _ hii]; exact helv i hi)⟩ rfl (fun _ _ _ => rfl) (fun q hq => sL_o hq) (fun _ _ => ⟨rfl, rfl⟩) (fun r i h1 h2 => sL_n (by omega))⟩)) ⟨Nat.le_of_ble_eq_true rfl, Nat.le_of_ble_eq_true rfl⟩ dX4_set_104
              · refine lv_lload_n hx hb dX4_set_95 rfl (lv_at hl 5 rfl) ?_
                refine lv_l2i (v := x.toInt32) hx hb dX4_set_96 rfl ?_
                refine lv_i2l (v := x.toInt32.toInt64) hx hb dX4_set_97 rfl ?_
                refine lv_goto (tgt := 102) hx hb dX4_set_98 (by decide) ?_
                refine m_last 11 rfl rfl ((160 * v1) + i1) ⟨by omega, by show _ < 1280; omega⟩ hx hb hG dX4_set_102 (fun H locs (hG : mW X mo ad (sL S 11 ((160 * v1) + i1) x.toInt32.toInt64) s H locs) => ?_)
                refine lv_iconst (v := zI 1) hx hb dX4_set_103 (by decide +kernel) ?_
                exact m_iret hx hb hr hlocks hG (by first | (exfalso; omega) | exact (by rw [show opSet a v1 i1 x = (1, aSet a v1 (some (.inr (sov, nv, va_up fv i1 (aTrunc sov x))))) from (by unfold opSet; rw [if_neg (by omega)]; simp only [Int.toNat_natCast, hsvv]; all_goals ((repeat (first | rw [if_pos (by omega)] | rw [if_neg (by omega)])) <;> rfl))]; exact ⟨rfl, hX.set hA (by omega) ⟨hshv, hlnv, fun i hi => by by_cases hii : i = i1; (subst hii; rw [sL_s, va_up_self]; unfold aTrunc; (repeat (first | rw [if_pos (by omega)] | rw [if_neg (by omega)])) <;> rfl); (rw [sL_n (by omega), va_up_ne _ _ hii]; exact helv i hi)⟩ rfl (fun _ _ _ => rfl) (fun q hq => sL_o hq) (fun _ _ => ⟨rfl, rfl⟩) (fun r i h1 h2 => sL_n (by omega))⟩)) ⟨Nat.le_of_ble_eq_true rfl, Nat.le_of_ble_eq_true rfl⟩ dX4_set_104
            · refine lv_lload_n hx hb dX4_set_82 rfl (lv_at hl 5 rfl) ?_
              refine lv_l2i (v := x.toInt32) hx hb dX4_set_83 rfl ?_
              refine lv_i2s (v := x.toInt32.toInt16.toInt32) hx hb dX4_set_84 rfl ?_
              refine lv_i2l (v := x.toInt32.toInt16.toInt32.toInt64) hx hb dX4_set_85 rfl ?_
              refine lv_goto (tgt := 102) hx hb dX4_set_86 (by decide) ?_
              refine m_last 11 rfl rfl ((160 * v1) + i1) ⟨by omega, by show _ < 1280; omega⟩ hx hb hG dX4_set_102 (fun H locs (hG : mW X mo ad (sL S 11 ((160 * v1) + i1) x.toInt32.toInt16.toInt32.toInt64) s H locs) => ?_)
              refine lv_iconst (v := zI 1) hx hb dX4_set_103 (by decide +kernel) ?_
              exact m_iret hx hb hr hlocks hG (by first | (exfalso; omega) | exact (by rw [show opSet a v1 i1 x = (1, aSet a v1 (some (.inr (sov, nv, va_up fv i1 (aTrunc sov x))))) from (by unfold opSet; rw [if_neg (by omega)]; simp only [Int.toNat_natCast, hsvv]; all_goals ((repeat (first | rw [if_pos (by omega)] | rw [if_neg (by omega)])) <;> rfl))]; exact ⟨rfl, hX.set hA (by omega) ⟨hshv, hlnv, fun i hi => by by_cases hii : i = i1; (subst hii; rw [sL_s, va_up_self]; unfold aTrunc; (repeat (first | rw [if_pos (by omega)] | rw [if_neg (by omega)])) <;> rfl); (rw [sL_n (by omega), va_up_ne _ _ hii]; exact helv i hi)⟩ rfl (fun _ _ _ => rfl) (fun q hq => sL_o hq) (fun _ _ => ⟨rfl, rfl⟩) (fun r i h1 h2 => sL_n (by omega))⟩)) ⟨Nat.le_of_ble_eq_true rfl, Nat.le_of_ble_eq_true rfl⟩ dX4_set_104
          · refine lv_lload_n hx hb dX4_set_69 rfl (lv_at hl 5 rfl) ?_
            refine lv_l2i (v := x.toInt32) hx hb dX4_set_70 rfl ?_
            refine lv_i2b (v := x.toInt32.toInt8.toInt32) hx hb dX4_set_71 rfl ?_
            refine lv_i2l (v := x.toInt32.toInt8.toInt32.toInt64) hx hb dX4_set_72 rfl ?_
            refine lv_goto (tgt := 102) hx hb dX4_set_73 (by decide) ?_
            refine m_last 11 rfl rfl ((160 * v1) + i1) ⟨by omega, by show _ < 1280; omega⟩ hx hb hG dX4_set_102 (fun H locs (hG : mW X mo ad (sL S 11 ((160 * v1) + i1) x.toInt32.toInt8.toInt32.toInt64) s H locs) => ?_)
            refine lv_iconst (v := zI 1) hx hb dX4_set_103 (by decide +kernel) ?_
            exact m_iret hx hb hr hlocks hG (by first | (exfalso; omega) | exact (by rw [show opSet a v1 i1 x = (1, aSet a v1 (some (.inr (sov, nv, va_up fv i1 (aTrunc sov x))))) from (by unfold opSet; rw [if_neg (by omega)]; simp only [Int.toNat_natCast, hsvv]; all_goals ((repeat (first | rw [if_pos (by omega)] | rw [if_neg (by omega)])) <;> rfl))]; exact ⟨rfl, hX.set hA (by omega) ⟨hshv, hlnv, fun i hi => by by_cases hii : i = i1; (subst hii; rw [sL_s, va_up_self]; unfold aTrunc; (repeat (first | rw [if_pos (by omega)] | rw [if_neg (by omega)])) <;> rfl); (rw [sL_n (by omega), va_up_ne _ _ hii]; exact helv i hi)⟩ rfl (fun _ _ _ => rfl) (fun q hq => sL_o hq) (fun _ _ => ⟨rfl, rfl⟩) (fun r i h1 h2 => sL_n (by omega))⟩)) ⟨Nat.le_of_ble_eq_true rfl, Nat.le_of_ble_eq_true rfl⟩ dX4_set_104
        · refine lv_aload_n hx hb dX4_set_35 rfl (lv_at hl 1 rfl) ?_
          refine lv_bipush (v := zI (-5)) hx hb dX4_set_36 (by decide +kernel) ?_
          refine g_topz (y := -((5 : Nat) : Int)) (by decide) ?_
          refine m_ci (va_runV (As := [.int (zI (-((5 : Nat) : Int)))]) (rest := []) ⟨hx, hb, hml, hown, hts⟩ (metX4_no 5 (by decide)) (cwV 1 hts (lw_V q3427 q3429 qs43 q102 q3430) rfl rfl rfl (by decide +kernel) ⟨Nat.le_of_ble_eq_true rfl, Nat.le_of_ble_eq_true rfl⟩) (m_preV hG) rfl rfl hl.1 rfl (lv_room (Nat.le_of_ble_eq_true rfl)) dX4_set_38 ⟨Nat.le_of_ble_eq_true rfl, Nat.le_of_ble_eq_true rfl⟩) hG (fun r_13 S_14 H locs hp hG => ?_)
          obtain ⟨rfl, rfl⟩ := hp
          have hG : mW X mo ad (mNo S 5) s H locs := hG
          exact m_iret hx hb hr hlocks hG (by first | (exfalso; omega) | exact (hX.noR 5 (by unfold opSet; (repeat (first | rw [if_pos (by omega)] | rw [if_neg (by omega)])); all_goals (try (simp only [Int.toNat_natCast, hsvv])); all_goals ((repeat (first | rw [if_pos (by omega)] | rw [if_neg (by omega)])) <;> rfl)))) ⟨Nat.le_of_ble_eq_true rfl, Nat.le_of_ble_eq_true rfl⟩ dX4_set_41
      · exfalso; omega
  · refine lv_aload_n hx hb dX4_set_0 rfl (lv_at hl 0 rfl) ?_
    refine lv_iload_n hx hb dX4_set_1 rfl (lv_at hl 1 rfl) ?_
    refine m_ci (va_runV (As := [.int (zI v)]) (rest := []) ⟨hx, hb, hml, hown, hts⟩ (metX4_noRow hX hA (by omega) 1 (by unfold aBar; rw [if_pos (by omega)])) (cwV 1 hts (lw_V q3435 q3437 qs44 q102 q3438) rfl rfl rfl (by decide +kernel) ⟨Nat.le_of_ble_eq_true rfl, Nat.le_of_ble_eq_true rfl⟩) (m_preV hG) rfl rfl hl.1 rfl (lv_room (Nat.le_of_ble_eq_true rfl)) dX4_set_2 ⟨Nat.le_of_ble_eq_true rfl, Nat.le_of_ble_eq_true rfl⟩) hG (fun r_15 S_16 H locs hp hG => ?_)
    obtain ⟨rfl, rfl⟩ := hp
    have hG : mW X mo ad S s H locs := hG
    refine g_topz (y := -1) (by decide) ?_
    refine lv_istore (lv' := [(5, .int (zI (-1))), (0, .ref mo), (1, .int (zI v)), (2, .int (zI i)), (3, .long x)]) hx hb dX4_set_5 hl (by decide) rfl (fun ls hl => ?_)
    refine lv_iload hx hb dX4_set_7 (lv_at hl 0 rfl) ?_
    refine g_ge (tgt := 19) hx hb dX4_set_9 (by decide) (by decide) (fun h9 => ?_) (fun h9 => ?_)
    · exfalso; omega
    · refine lv_aload_n hx hb dX4_set_12 rfl (lv_at hl 1 rfl) ?_
      refine lv_iload hx hb dX4_set_13 (lv_at hl 0 rfl) ?_
      refine g_topz (y := -((1 : Nat) : Int)) (by decide) ?_
      refine m_ci (va_runV (As := [.int (zI (-((1 : Nat) : Int)))]) (rest := []) ⟨hx, hb, hml, hown, hts⟩ (metX4_no 1 (by decide)) (cwV 1 hts (lw_V q3427 q3429 qs43 q102 q3430) rfl rfl rfl (by decide +kernel) ⟨Nat.le_of_ble_eq_true rfl, Nat.le_of_ble_eq_true rfl⟩) (m_preV hG) rfl rfl hl.1 rfl (lv_room (Nat.le_of_ble_eq_true rfl)) dX4_set_15 ⟨Nat.le_of_ble_eq_true rfl, Nat.le_of_ble_eq_true rfl⟩) hG (fun r_17 S_18 H locs hp hG => ?_)
      obtain ⟨rfl, rfl⟩ := hp
      have hG : mW X mo ad (mNo S 1) s H locs := hG
      exact m_iret hx hb hr hlocks hG (by first | (exfalso; omega) | exact (hX.noR 1 (by unfold opSet; all_goals ((repeat (first | rw [if_pos (by omega)] | rw [if_neg (by omega)])) <;> rfl)))) ⟨Nat.le_of_ble_eq_true rfl, Nat.le_of_ble_eq_true rfl⟩ dX4_set_18

set_option maxHeartbeats 4000000 in
theorem metX4_element {l : Launch} {X : gX} {mo : Nat} {ad : Nat → Nat} {S : mS} {a : aS} (hX : mX S a) (hA : aOK a) {v i : Int} (hr0 : -2147483648 ≤ v ∧ v < 2147483648 ∧ -2147483648 ≤ i ∧ i < 2147483648) : Met l yX4_element (ws_ yX4_element cX4_element 3 (some FieldType.long)) ({ frames := 1, cells := 0, slots := 0, locals := 22 }) (mP X mo ad S [.ref mo, .int (zI v), .int (zI i)]) (mQl X mo ad (fun u T => u = opElem a v i ∧ S = T)) 0 0 (mA mo ad) := by
  refine Met.m (by decide) (Nat.le_of_ble_eq_true rfl) ?_
  intro p e s m below meth c ls hx hb hr hts hown hlocks hml hG hl
  have hl : lv_has ls 3 [(0, .ref mo), (1, .int (zI v)), (2, .int (zI i))] := hl
  refine lv_iload_n hx hb dX4_element_0 rfl (lv_at hl 1 rfl) ?_
  refine lv_iconst (v := zI 0) hx hb dX4_element_1 (by decide +kernel) ?_
  refine lv_bipush (v := zI 7) hx hb dX4_element_2 (by decide +kernel) ?_
  refine m_ci (va_runS (As := [.int (zI v), .int (zI 0), .int (zI 7)]) (rest := []) ⟨hx, hb, hml, hown, hts⟩ (metX4_within (by omega)) (va_cwS 3 hts (lw_S q3424 q3425 q102 q3426) rfl rfl rfl (by decide +kernel) ⟨Nat.le_of_ble_eq_true rfl, Nat.le_of_ble_eq_true rfl⟩) (m_preS hG) rfl rfl hl.1 rfl (lv_room (Nat.le_of_ble_eq_true rfl)) dX4_element_4 ⟨Nat.le_of_ble_eq_true rfl, Nat.le_of_ble_eq_true rfl⟩) hG (fun r_1 S_2 H locs hp hG => ?_)
  obtain ⟨bw1, rfl, hbw1, rfl⟩ := hp
  have hG : mW X mo ad S s H locs := hG
  refine g_eq (tgt := 49) hx hb dX4_element_7 (by decide) (by omega) (fun h2 => ?_) (fun h2 => ?_)
  · refine lv_lconst (v := zL 0) hx hb dX4_element_49 (by decide +kernel) ?_
    exact m_lret hx hb hr hlocks hG (by first | (exfalso; omega) | exact ⟨(by unfold opElem; all_goals ((repeat (first | rw [if_pos (by omega)] | rw [if_neg (by omega)])) <;> first | rfl | decide | exact helv i1 (by omega))), rfl⟩) ⟨Nat.le_of_ble_eq_true rfl, Nat.le_of_ble_eq_true rfl⟩ dX4_element_50
  · obtain ⟨v1, rfl⟩ : ∃ n9 : Nat, v = n9 := ⟨v.toNat, by omega⟩
    have hshv := hX.2.2.1 v1 (by omega)
    have hokv := hA.2.1 v1
    rcases hsvv : aSv a v1 with _ | mv | ⟨sov, nv, fv⟩
    · rw [hsvv] at hshv
      have hshv : S.2.1 9 v1 = -1 := hshv
      refine lv_aload_n hx hb dX4_element_10 rfl (lv_at hl 0 rfl) ?_
      refine lv_iload_n hx hb dX4_element_11 rfl (lv_at hl 1 rfl) ?_
      have hq3 := hX.hold hA v1 (by omega)
      refine m_ci (va_runV (As := [.int (zI (v1 : Int))]) (rest := []) ⟨hx, hb, hml, hown, hts⟩ (metX4_isRow (k := v1) (by omega)) (cwV 1 hts (lw_V q3439 q3441 qs45 q102 q3442) rfl rfl rfl (by decide +kernel) ⟨Nat.le_of_ble_eq_true rfl, Nat.le_of_ble_eq_true rfl⟩) (m_preV hG) rfl rfl hl.1 rfl (lv_room (Nat.le_of_ble_eq_true rfl)) dX4_element_12 ⟨Nat.le_of_ble_eq_true rfl, Nat.le_of_ble_eq_true rfl⟩) hG (fun r_3 S_4 H locs hp hG => ?_)
      obtain ⟨b3, rfl, hb3, rfl⟩ := hp
      have hG : mW X mo ad S s H locs := hG
      refine g_eq (tgt := 49) hx hb dX4_element_15 (by decide) (by omega) (fun h4 => ?_) (fun h4 => ?_)
      · refine lv_lconst (v := zL 0) hx hb dX4_element_49 (by decide +kernel) ?_
        exact m_lret hx hb hr hlocks hG (by first | (exfalso; omega) | exact ⟨(by unfold opElem; rw [if_neg (by omega)]; simp only [Int.toNat_natCast, hsvv]; all_goals ((repeat (first | rw [if_pos (by omega)] | rw [if_neg (by omega)])) <;> first | rfl | decide | exact helv i1 (by omega))), rfl⟩) ⟨Nat.le_of_ble_eq_true rfl, Nat.le_of_ble_eq_true rfl⟩ dX4_element_50
      · refine lv_iload_n hx hb dX4_element_18 rfl (lv_at hl 2 rfl) ?_
        refine lv_iconst (v := zI 0) hx hb dX4_element_19 (by decide +kernel) ?_
        refine lv_aload_n hx hb dX4_element_20 rfl (lv_at hl 0 rfl) ?_
        refine m_get 10 (by decide) (v := .ref (ad 10)) rfl hx hb hts hown hG (hts _ q3306) dX4_element_21 ?_
        refine lv_iload_n hx hb dX4_element_24 rfl (lv_at hl 1 rfl) ?_
        refine m_iald 10 rfl rfl (by decide) v1 (v := S.2.1 10 v1) ⟨by omega, by show _ < 8; omega⟩ rfl hx hb hG dX4_element_25 ?_
        refine lv_iconst (v := zI 1) hx hb dX4_element_26 (by decide +kernel) ?_
        refine g_isub hx hb dX4_element_27 ?_
        refine m_ci (va_runS (As := [.int (zI i), .int (zI 0), .int (zI (S.2.1 10 v1 - 1))]) (rest := []) ⟨hx, hb, hml, hown, hts⟩ (metX4_within (by omega)) (va_cwS 3 hts (lw_S q3424 q3425 q102 q3426) rfl rfl rfl (by decide +kernel) ⟨Nat.le_of_ble_eq_true rfl, Nat.le_of_ble_eq_true rfl⟩) (m_preS hG) rfl rfl hl.1 rfl (lv_room (Nat.le_of_ble_eq_true rfl)) dX4_element_28 ⟨Nat.le_of_ble_eq_true rfl, Nat.le_of_ble_eq_true rfl⟩) hG (fun r_5 S_6 H locs hp hG => ?_)
        obtain ⟨bw6, rfl, hbw6, rfl⟩ := hp
        have hG : mW X mo ad S s H locs := hG
        refine g_eq (tgt := 49) hx hb dX4_element_31 (by decide) (by omega) (fun h7 => ?_) (fun h7 => ?_)
        · refine lv_lconst (v := zL 0) hx hb dX4_element_49 (by decide +kernel) ?_
          exact m_lret hx hb hr hlocks hG (by first | (exfalso; omega) | exact ⟨(by unfold opElem; rw [if_neg (by omega)]; simp only [Int.toNat_natCast, hsvv]; all_goals ((repeat (first | rw [if_pos (by omega)] | rw [if_neg (by omega)])) <;> first | rfl | decide | exact helv i1 (by omega))), rfl⟩) ⟨Nat.le_of_ble_eq_true rfl, Nat.le_of_ble_eq_true rfl⟩ dX4_element_50
        · obtain ⟨i1, rfl⟩ : ∃ n9 : Nat, i = n9 := ⟨i.toNat, by omega⟩
          refine lv_aload_n hx hb dX4_element_34 rfl (lv_at hl 0 rfl) ?_
          refine m_get 11 (by decide) (v := .ref (ad 11)) rfl hx hb hts hown hG (hts _ q3307) dX4_element_35 ?_
          refine lv_sipush (v := zI 160) hx hb dX4_element_38 (by decide +kernel) ?_
          refine lv_iload_n hx hb dX4_element_41 rfl (lv_at hl 1 rfl) ?_
          refine g_imul hx hb dX4_element_42 ?_
          refine lv_iload_n hx hb dX4_element_43 rfl (lv_at hl 2 rfl) ?_
          refine g_iadd hx hb dX4_element_44 ?_
          refine m_lald 11 rfl rfl ((160 * v1) + i1) (v := S.2.2 11 ((160 * v1) + i1)) ⟨by omega, by show _ < 1280; omega⟩ rfl hx hb hG dX4_element_45 ?_
          refine lv_goto (tgt := 50) hx hb dX4_element_46 (by decide) ?_
          exact m_lret hx hb hr hlocks hG (by first | (exfalso; omega) | exact ⟨(by unfold opElem; rw [if_neg (by omega)]; simp only [Int.toNat_natCast, hsvv]; all_goals ((repeat (first | rw [if_pos (by omega)] | rw [if_neg (by omega)])) <;> first | rfl | decide | exact helv i1 (by omega))), rfl⟩) ⟨Nat.le_of_ble_eq_true rfl, Nat.le_of_ble_eq_true rfl⟩ dX4_element_50
    · rw [hsvv] at hshv hokv
      have hshv : S.2.1 9 v1 = (mv : Nat) := hshv
      have hokv : mv < wM (aWd a) := hokv
      have hMv := hA.w.m
      refine lv_aload_n hx hb dX4_element_10 rfl (lv_at hl 0 rfl) ?_
      refine lv_iload_n hx hb dX4_element_11 rfl (lv_at hl 1 rfl) ?_
      have hq9 := hX.hold hA v1 (by omega)
      refine m_ci (va_runV (As := [.int (zI (v1 : Int))]) (rest := []) ⟨hx, hb, hml, hown, hts⟩ (metX4_isRow (k := v1) (by omega)) (cwV 1 hts (lw_V q3439 q3441 qs45 q102 q3442) rfl rfl rfl (by decide +kernel) ⟨Nat.le_of_ble_eq_true rfl, Nat.le_of_ble_eq_true rfl⟩) (m_preV hG) rfl rfl hl.1 rfl (lv_room (Nat.le_of_ble_eq_true rfl)) dX4_element_12 ⟨Nat.le_of_ble_eq_true rfl, Nat.le_of_ble_eq_true rfl⟩) hG (fun r_7 S_8 H locs hp hG => ?_)
      obtain ⟨b9, rfl, hb9, rfl⟩ := hp
      have hG : mW X mo ad S s H locs := hG
      refine g_eq (tgt := 49) hx hb dX4_element_15 (by decide) (by omega) (fun h10 => ?_) (fun h10 => ?_)
      · refine lv_lconst (v := zL 0) hx hb dX4_element_49 (by decide +kernel) ?_
        exact m_lret hx hb hr hlocks hG (by first | (exfalso; omega) | exact ⟨(by unfold opElem; rw [if_neg (by omega)]; simp only [Int.toNat_natCast, hsvv]; all_goals ((repeat (first | rw [if_pos (by omega)] | rw [if_neg (by omega)])) <;> first | rfl | decide | exact helv i1 (by omega))), rfl⟩) ⟨Nat.le_of_ble_eq_true rfl, Nat.le_of_ble_eq_true rfl⟩ dX4_element_50
      · refine lv_iload_n hx hb dX4_element_18 rfl (lv_at hl 2 rfl) ?_
        refine lv_iconst (v := zI 0) hx hb dX4_element_19 (by decide +kernel) ?_
        refine lv_aload_n hx hb dX4_element_20 rfl (lv_at hl 0 rfl) ?_
        refine m_get 10 (by decide) (v := .ref (ad 10)) rfl hx hb hts hown hG (hts _ q3306) dX4_element_21 ?_
        refine lv_iload_n hx hb dX4_element_24 rfl (lv_at hl 1 rfl) ?_
        refine m_iald 10 rfl rfl (by decide) v1 (v := S.2.1 10 v1) ⟨by omega, by show _ < 8; omega⟩ rfl hx hb hG dX4_element_25 ?_
        refine lv_iconst (v := zI 1) hx hb dX4_element_26 (by decide +kernel) ?_
        refine g_isub hx hb dX4_element_27 ?_
        refine m_ci (va_runS (As := [.int (zI i), .int (zI 0), .int (zI (S.2.1 10 v1 - 1))]) (rest := []) ⟨hx, hb, hml, hown, hts⟩ (metX4_within (by omega)) (va_cwS 3 hts (lw_S q3424 q3425 q102 q3426) rfl rfl rfl (by decide +kernel) ⟨Nat.le_of_ble_eq_true rfl, Nat.le_of_ble_eq_true rfl⟩) (m_preS hG) rfl rfl hl.1 rfl (lv_room (Nat.le_of_ble_eq_true rfl)) dX4_element_28 ⟨Nat.le_of_ble_eq_true rfl, Nat.le_of_ble_eq_true rfl⟩) hG (fun r_9 S_10 H locs hp hG => ?_)
        obtain ⟨bw12, rfl, hbw12, rfl⟩ := hp
        have hG : mW X mo ad S s H locs := hG
        refine g_eq (tgt := 49) hx hb dX4_element_31 (by decide) (by omega) (fun h13 => ?_) (fun h13 => ?_)
        · refine lv_lconst (v := zL 0) hx hb dX4_element_49 (by decide +kernel) ?_
          exact m_lret hx hb hr hlocks hG (by first | (exfalso; omega) | exact ⟨(by unfold opElem; rw [if_neg (by omega)]; simp only [Int.toNat_natCast, hsvv]; all_goals ((repeat (first | rw [if_pos (by omega)] | rw [if_neg (by omega)])) <;> first | rfl | decide | exact helv i1 (by omega))), rfl⟩) ⟨Nat.le_of_ble_eq_true rfl, Nat.le_of_ble_eq_true rfl⟩ dX4_element_50
        · obtain ⟨i1, rfl⟩ : ∃ n9 : Nat, i = n9 := ⟨i.toNat, by omega⟩
          refine lv_aload_n hx hb dX4_element_34 rfl (lv_at hl 0 rfl) ?_
          refine m_get 11 (by decide) (v := .ref (ad 11)) rfl hx hb hts hown hG (hts _ q3307) dX4_element_35 ?_
          refine lv_sipush (v := zI 160) hx hb dX4_element_38 (by decide +kernel) ?_
          refine lv_iload_n hx hb dX4_element_41 rfl (lv_at hl 1 rfl) ?_
          refine g_imul hx hb dX4_element_42 ?_
          refine lv_iload_n hx hb dX4_element_43 rfl (lv_at hl 2 rfl) ?_
          refine g_iadd hx hb dX4_element_44 ?_
          refine m_lald 11 rfl rfl ((160 * v1) + i1) (v := S.2.2 11 ((160 * v1) + i1)) ⟨by omega, by show _ < 1280; omega⟩ rfl hx hb hG dX4_element_45 ?_
          refine lv_goto (tgt := 50) hx hb dX4_element_46 (by decide) ?_
          exact m_lret hx hb hr hlocks hG (by first | (exfalso; omega) | exact ⟨(by unfold opElem; rw [if_neg (by omega)]; simp only [Int.toNat_natCast, hsvv]; all_goals ((repeat (first | rw [if_pos (by omega)] | rw [if_neg (by omega)])) <;> first | rfl | decide | exact helv i1 (by omega))), rfl⟩) ⟨Nat.le_of_ble_eq_true rfl, Nat.le_of_ble_eq_true rfl⟩ dX4_element_50
    · rw [hsvv] at hshv hokv
      obtain ⟨hshv, hlnv, helv⟩ := hshv
      have hokv : sov ≤ 3 ∧ nv ≤ 160 := hokv
      refine lv_aload_n hx hb dX4_element_10 rfl (lv_at hl 0 rfl) ?_
      refine lv_iload_n hx hb dX4_element_11 rfl (lv_at hl 1 rfl) ?_
      have hq15 := hX.hold hA v1 (by omega)
      refine m_ci (va_runV (As := [.int (zI (v1 : Int))]) (rest := []) ⟨hx, hb, hml, hown, hts⟩ (metX4_isRow (k := v1) (by omega)) (cwV 1 hts (lw_V q3439 q3441 qs45 q102 q3442) rfl rfl rfl (by decide +kernel) ⟨Nat.le_of_ble_eq_true rfl, Nat.le_of_ble_eq_true rfl⟩) (m_preV hG) rfl rfl hl.1 rfl (lv_room (Nat.le_of_ble_eq_true rfl)) dX4_element_12 ⟨Nat.le_of_ble_eq_true rfl, Nat.le_of_ble_eq_true rfl⟩) hG (fun r_11 S_12 H locs hp hG => ?_)
      obtain ⟨b15, rfl, hb15, rfl⟩ := hp
      have hG : mW X mo ad S s H locs := hG
      refine g_eq (tgt := 49) hx hb dX4_element_15 (by decide) (by omega) (fun h16 => ?_) (fun h16 => ?_)
      · refine lv_lconst (v := zL 0) hx hb dX4_element_49 (by decide +kernel) ?_
        exact m_lret hx hb hr hlocks hG (by first | (exfalso; omega) | exact ⟨(by unfold opElem; rw [if_neg (by omega)]; simp only [Int.toNat_natCast, hsvv]; all_goals ((repeat (first | rw [if_pos (by omega)] | rw [if_neg (by omega)])) <;> first | rfl | decide | exact helv i1 (by omega))), rfl⟩) ⟨Nat.le_of_ble_eq_true rfl, Nat.le_of_ble_eq_true rfl⟩ dX4_element_50
      · refine lv_iload_n hx hb dX4_element_18 rfl (lv_at hl 2 rfl) ?_
        refine lv_iconst (v := zI 0) hx hb dX4_element_19 (by decide +kernel) ?_
        refine lv_aload_n hx hb dX4_element_20 rfl (lv_at hl 0 rfl) ?_
        refine m_get 10 (by decide) (v := .ref (ad 10)) rfl hx hb hts hown hG (hts _ q3306) dX4_element_21 ?_
        refine lv_iload_n hx hb dX4_element_24 rfl (lv_at hl 1 rfl) ?_
        refine m_iald 10 rfl rfl (by decide) v1 (v := (nv : Int)) ⟨by omega, by show _ < 8; omega⟩ hlnv hx hb hG dX4_element_25 ?_
        refine lv_iconst (v := zI 1) hx hb dX4_element_26 (by decide +kernel) ?_
        refine g_isub hx hb dX4_element_27 ?_
        refine m_ci (va_runS (As := [.int (zI i), .int (zI 0), .int (zI ((nv : Int) - 1))]) (rest := []) ⟨hx, hb, hml, hown, hts⟩ (metX4_within (by omega)) (va_cwS 3 hts (lw_S q3424 q3425 q102 q3426) rfl rfl rfl (by decide +kernel) ⟨Nat.le_of_ble_eq_true rfl, Nat.le_of_ble_eq_true rfl⟩) (m_preS hG) rfl rfl hl.1 rfl (lv_room (Nat.le_of_ble_eq_true rfl)) dX4_element_28 ⟨Nat.le_of_ble_eq_true rfl, Nat.le_of_ble_eq_true rfl⟩) hG (fun r_13 S_14 H locs hp hG => ?_)
        obtain ⟨bw17, rfl, hbw17, rfl⟩ := hp
        have hG : mW X mo ad S s H locs := hG
        refine g_eq (tgt := 49) hx hb dX4_element_31 (by decide) (by omega) (fun h18 => ?_) (fun h18 => ?_)
        · refine lv_lconst (v := zL 0) hx hb dX4_element_49 (by decide +kernel) ?_
          exact m_lret hx hb hr hlocks hG (by first | (exfalso; omega) | exact ⟨(by unfold opElem; rw [if_neg (by omega)]; simp only [Int.toNat_natCast, hsvv]; all_goals ((repeat (first | rw [if_pos (by omega)] | rw [if_neg (by omega)])) <;> first | rfl | decide | exact helv i1 (by omega))), rfl⟩) ⟨Nat.le_of_ble_eq_true rfl, Nat.le_of_ble_eq_true rfl⟩ dX4_element_50
        · obtain ⟨i1, rfl⟩ : ∃ n9 : Nat, i = n9 := ⟨i.toNat, by omega⟩
          refine lv_aload_n hx hb dX4_element_34 rfl (lv_at hl 0 rfl) ?_
          refine m_get 11 (by decide) (v := .ref (ad 11)) rfl hx hb hts hown hG (hts _ q3307) dX4_element_35 ?_
          refine lv_sipush (v := zI 160) hx hb dX4_element_38 (by decide +kernel) ?_
          refine lv_iload_n hx hb dX4_element_41 rfl (lv_at hl 1 rfl) ?_
          refine g_imul hx hb dX4_element_42 ?_
          refine lv_iload_n hx hb dX4_element_43 rfl (lv_at hl 2 rfl) ?_
          refine g_iadd hx hb dX4_element_44 ?_
          refine m_lald 11 rfl rfl ((160 * v1) + i1) (v := S.2.2 11 ((160 * v1) + i1)) ⟨by omega, by show _ < 1280; omega⟩ rfl hx hb hG dX4_element_45 ?_
          refine lv_goto (tgt := 50) hx hb dX4_element_46 (by decide) ?_
          exact m_lret hx hb hr hlocks hG (by first | (exfalso; omega) | exact ⟨(by unfold opElem; rw [if_neg (by omega)]; simp only [Int.toNat_natCast, hsvv]; all_goals ((repeat (first | rw [if_pos (by omega)] | rw [if_neg (by omega)])) <;> first | rfl | decide | exact helv i1 (by omega))), rfl⟩) ⟨Nat.le_of_ble_eq_true rfl, Nat.le_of_ble_eq_true rfl⟩ dX4_element_50

set_option maxHeartbeats 4000000 in
theorem metX4_show {l : Launch} {X : gX} {mo : Nat} {ad : Nat → Nat} {S : mS} {a : aS} (hX : mX S a) (hA : aOK a) {v mm : Int} (hr0 : -2147483648 ≤ v ∧ v < 2147483648 ∧ -2147483648 ≤ mm ∧ mm < 2147483648) : Met l yX4_show (ws_ yX4_show cX4_show 3 (some FieldType.int)) ({ frames := 2, cells := 0, slots := 0, locals := 43 }) (mP X mo ad S [.ref mo, .int (zI v), .int (zI mm)]) (mQi X mo ad (fun u T => u = zI (opShow a v mm).1 ∧ mX T (opShow a v mm).2)) 0 0 (mA mo ad) := by
  refine Met.m (by decide) (Nat.le_of_ble_eq_true rfl) ?_
  intro p e s m below meth c ls hx hb hr hts hown hlocks hml hG hl
  have hl : lv_has ls 3 [(0, .ref mo), (1, .int (zI v)), (2, .int (zI mm))] := hl
  refine lv_iload_n hx hb dX4_show_0 rfl (lv_at hl 1 rfl) ?_
  refine lv_iconst (v := zI 0) hx hb dX4_show_1 (by decide +kernel) ?_
  refine lv_bipush (v := zI 7) hx hb dX4_show_2 (by decide +kernel) ?_
  refine m_ci (va_runS (As := [.int (zI v), .int (zI 0), .int (zI 7)]) (rest := []) ⟨hx, hb, hml, hown, hts⟩ (metX4_within (by omega)) (va_cwS 3 hts (lw_S q3424 q3425 q102 q3426) rfl rfl rfl (by decide +kernel) ⟨Nat.le_of_ble_eq_true rfl, Nat.le_of_ble_eq_true rfl⟩) (m_preS hG) rfl rfl hl.1 rfl (lv_room (Nat.le_of_ble_eq_true rfl)) dX4_show_4 ⟨Nat.le_of_ble_eq_true rfl, Nat.le_of_ble_eq_true rfl⟩) hG (fun r_1 S_2 H locs hp hG => ?_)
  obtain ⟨bw1, rfl, hbw1, rfl⟩ := hp
  have hG : mW X mo ad S s H locs := hG
  refine g_eq (tgt := 23) hx hb dX4_show_7 (by decide) (by omega) (fun h2 => ?_) (fun h2 => ?_)
  · refine lv_aload_n hx hb dX4_show_23 rfl (lv_at hl 0 rfl) ?_
    refine lv_iconst (v := zI (-1)) hx hb dX4_show_24 (by decide +kernel) ?_
    refine g_topz (y := -((1 : Nat) : Int)) (by decide) ?_
    refine m_ci (va_runV (As := [.int (zI (-((1 : Nat) : Int)))]) (rest := []) ⟨hx, hb, hml, hown, hts⟩ (metX4_no 1 (by decide)) (cwV 1 hts (lw_V q3427 q3429 qs43 q102 q3430) rfl rfl rfl (by decide +kernel) ⟨Nat.le_of_ble_eq_true rfl, Nat.le_of_ble_eq_true rfl⟩) (m_preV hG) rfl rfl hl.1 rfl (lv_room (Nat.le_of_ble_eq_true rfl)) dX4_show_25 ⟨Nat.le_of_ble_eq_true rfl, Nat.le_of_ble_eq_true rfl⟩) hG (fun r_3 S_4 H locs hp hG => ?_)
    obtain ⟨rfl, rfl⟩ := hp
    have hG : mW X mo ad (mNo S 1) s H locs := hG
    exact m_iret hx hb hr hlocks hG (by first | (exfalso; omega) | exact (hX.noR 1 (by unfold opShow; all_goals ((repeat (first | rw [if_pos (by omega)] | rw [if_neg (by omega)])) <;> rfl)))) ⟨Nat.le_of_ble_eq_true rfl, Nat.le_of_ble_eq_true rfl⟩ dX4_show_28
  · refine lv_iload_n hx hb dX4_show_10 rfl (lv_at hl 2 rfl) ?_
    refine lv_iconst (v := zI (-1)) hx hb dX4_show_11 (by decide +kernel) ?_
    refine g_ceq (tgt := 29) hx hb dX4_show_12 (by decide) (by omega) (fun h3 => ?_) (fun h3 => ?_)
    · obtain ⟨v1, rfl⟩ : ∃ n9 : Nat, v = n9 := ⟨v.toNat, by omega⟩
      refine lv_aload_n hx hb dX4_show_29 rfl (lv_at hl 0 rfl) ?_
      refine m_get 9 (by decide) (v := .ref (ad 9)) rfl hx hb hts hown hG (hts _ q3305) dX4_show_30 ?_
      refine lv_iload_n hx hb dX4_show_33 rfl (lv_at hl 1 rfl) ?_
      refine lv_iload_n hx hb dX4_show_34 rfl (lv_at hl 2 rfl) ?_
      refine m_iast 9 rfl rfl (by decide) v1 ⟨by omega, by show _ < 8; omega⟩ hx hb hG dX4_show_35 (fun H locs (hG : mW X mo ad (sA S 9 v1 mm) s H locs) => ?_)
      refine lv_iload_n hx hb dX4_show_36 rfl (lv_at hl 2 rfl) ?_
      refine lv_iconst (v := zI (-1)) hx hb dX4_show_37 (by decide +kernel) ?_
      refine g_cne (tgt := 45) hx hb dX4_show_38 (by decide) (by omega) (fun h4 => ?_) (fun h4 => ?_)
      · refine lv_iconst (v := zI 1) hx hb dX4_show_45 (by decide +kernel) ?_
        exact m_iret hx hb hr hlocks hG (by first | (exfalso; omega) | exact (by rw [show opShow a v1 mm = (1, aSet a v1 (some (.inl mm.toNat))) from (by unfold opShow; all_goals ((repeat (first | rw [if_pos (by omega)] | rw [if_neg (by omega)])) <;> rfl))]; exact ⟨rfl, hX.set hA (by omega) (show (sA S 9 v1 mm).2.1 9 v1 = ((mm.toNat : Nat) : Int) by rw [sA_s]; omega) rfl (fun q hq _ => sA_o hq) (fun _ _ => rfl) (fun r hr => ⟨sA_n hr, rfl⟩) (fun _ _ _ _ => rfl)⟩)) ⟨Nat.le_of_ble_eq_true rfl, Nat.le_of_ble_eq_true rfl⟩ dX4_show_46
      · refine lv_iconst (v := zI 0) hx hb dX4_show_41 (by decide +kernel) ?_
        refine lv_goto (tgt := 46) hx hb dX4_show_42 (by decide) ?_
        exact m_iret hx hb hr hlocks hG (by first | (exfalso; omega) | exact (by rw [show opShow a v1 mm = (0, aSet a v1 none) from (by unfold opShow; all_goals ((repeat (first | rw [if_pos (by omega)] | rw [if_neg (by omega)])) <;> rfl))]; exact ⟨rfl, hX.set hA (by omega) (show (sA S 9 v1 mm).2.1 9 v1 = -1 by rw [sA_s]; omega) rfl (fun q hq _ => sA_o hq) (fun _ _ => rfl) (fun r hr => ⟨sA_n hr, rfl⟩) (fun _ _ _ _ => rfl)⟩)) ⟨Nat.le_of_ble_eq_true rfl, Nat.le_of_ble_eq_true rfl⟩ dX4_show_46
    · refine lv_aload_n hx hb dX4_show_15 rfl (lv_at hl 0 rfl) ?_
      refine lv_iload_n hx hb dX4_show_16 rfl (lv_at hl 2 rfl) ?_
      have hq5 := hX.o.m
      have hQ5 := hA.w.m
      refine m_ci (va_runV (As := [.int (zI mm)]) (rest := []) ⟨hx, hb, hml, hown, hts⟩ (metX4_isRemark (by omega) (by omega)) (cwV 1 hts (lw_V q3455 q3457 qs46 q102 q3458) rfl rfl rfl (by decide +kernel) ⟨Nat.le_of_ble_eq_true rfl, Nat.le_of_ble_eq_true rfl⟩) (m_preV hG) rfl rfl hl.1 rfl (lv_room (Nat.le_of_ble_eq_true rfl)) dX4_show_17 ⟨Nat.le_of_ble_eq_true rfl, Nat.le_of_ble_eq_true rfl⟩) hG (fun r_5 S_6 H locs hp hG => ?_)
      obtain ⟨b5, rfl, hb5, rfl⟩ := hp
      have hG : mW X mo ad S s H locs := hG
      refine g_ne (tgt := 29) hx hb dX4_show_20 (by decide) (by omega) (fun h6 => ?_) (fun h6 => ?_)
      · obtain ⟨v1, rfl⟩ : ∃ n9 : Nat, v = n9 := ⟨v.toNat, by omega⟩
        refine lv_aload_n hx hb dX4_show_29 rfl (lv_at hl 0 rfl) ?_
        refine m_get 9 (by decide) (v := .ref (ad 9)) rfl hx hb hts hown hG (hts _ q3305) dX4_show_30 ?_
        refine lv_iload_n hx hb dX4_show_33 rfl (lv_at hl 1 rfl) ?_
        refine lv_iload_n hx hb dX4_show_34 rfl (lv_at hl 2 rfl) ?_
        refine m_iast 9 rfl rfl (by decide) v1 ⟨by omega, by show _ < 8; omega⟩ hx hb hG dX4_show_35 (fun H locs (hG : mW X mo ad (sA S 9 v1 mm) s H locs) => ?_)
        refine lv_iload_n hx hb dX4_show_36 rfl (lv_at hl 2 rfl) ?_
        refine lv_iconst (v := zI (-1)) hx hb dX4_show_37 (by decide +kernel) ?_
        refine g_cne (tgt := 45) hx hb dX4_show_38 (by decide) (by omega) (fun h7 => ?_) (fun h7 => ?_)
        · refine lv_iconst (v := zI 1) hx hb dX4_show_45 (by decide +kernel) ?_
          exact m_iret hx hb hr hlocks hG (by first | (exfalso; omega) | exact (by rw [show opShow a v1 mm = (1, aSet a v1 (some (.inl mm.toNat))) from (by unfold opShow; all_goals ((repeat (first | rw [if_pos (by omega)] | rw [if_neg (by omega)])) <;> rfl))]; exact ⟨rfl, hX.set hA (by omega) (show (sA S 9 v1 mm).2.1 9 v1 = ((mm.toNat : Nat) : Int) by rw [sA_s]; omega) rfl (fun q hq _ => sA_o hq) (fun _ _ => rfl) (fun r hr => ⟨sA_n hr, rfl⟩) (fun _ _ _ _ => rfl)⟩)) ⟨Nat.le_of_ble_eq_true rfl, Nat.le_of_ble_eq_true rfl⟩ dX4_show_46
        · refine lv_iconst (v := zI 0) hx hb dX4_show_41 (by decide +kernel) ?_
          refine lv_goto (tgt := 46) hx hb dX4_show_42 (by decide) ?_
          exact m_iret hx hb hr hlocks hG (by first | (exfalso; omega) | exact (by rw [show opShow a v1 mm = (0, aSet a v1 none) from (by unfold opShow; all_goals ((repeat (first | rw [if_pos (by omega)] | rw [if_neg (by omega)])) <;> rfl))]; exact ⟨rfl, hX.set hA (by omega) (show (sA S 9 v1 mm).2.1 9 v1 = -1 by rw [sA_s]; omega) rfl (fun q hq _ => sA_o hq) (fun _ _ => rfl) (fun r hr => ⟨sA_n hr, rfl⟩) (fun _ _ _ _ => rfl)⟩)) ⟨Nat.le_of_ble_eq_true rfl, Nat.le_of_ble_eq_true rfl⟩ dX4_show_46
      · refine lv_aload_n hx hb dX4_show_23 rfl (lv_at hl 0 rfl) ?_
        refine lv_iconst (v := zI (-1)) hx hb dX4_show_24 (by decide +kernel) ?_
        refine g_topz (y := -((1 : Nat) : Int)) (by decide) ?_
        refine m_ci (va_runV (As := [.int (zI (-((1 : Nat) : Int)))]) (rest := []) ⟨hx, hb, hml, hown, hts⟩ (metX4_no 1 (by decide)) (cwV 1 hts (lw_V q3427 q3429 qs43 q102 q3430) rfl rfl rfl (by decide +kernel) ⟨Nat.le_of_ble_eq_true rfl, Nat.le_of_ble_eq_true rfl⟩) (m_preV hG) rfl rfl hl.1 rfl (lv_room (Nat.le_of_ble_eq_true rfl)) dX4_show_25 ⟨Nat.le_of_ble_eq_true rfl, Nat.le_of_ble_eq_true rfl⟩) hG (fun r_7 S_8 H locs hp hG => ?_)
        obtain ⟨rfl, rfl⟩ := hp
        have hG : mW X mo ad (mNo S 1) s H locs := hG
        exact m_iret hx hb hr hlocks hG (by first | (exfalso; omega) | exact (hX.noR 1 (by unfold opShow; all_goals ((repeat (first | rw [if_pos (by omega)] | rw [if_neg (by omega)])) <;> rfl)))) ⟨Nat.le_of_ble_eq_true rfl, Nat.le_of_ble_eq_true rfl⟩ dX4_show_28

set_option maxHeartbeats 4000000 in
theorem metX4_holds {l : Launch} {X : gX} {mo : Nat} {ad : Nat → Nat} {S : mS} {a : aS} (hX : mX S a) (hA : aOK a) {v : Int} (hr0 : -2147483648 ≤ v ∧ v < 2147483648) : Met l yX4_holds (ws_ yX4_holds cX4_holds 2 (some FieldType.int)) ({ frames := 1, cells := 0, slots := 0, locals := 22 }) (mP X mo ad S [.ref mo, .int (zI v)]) (mQi X mo ad (fun u T => u = zI (opHolds a v) ∧ S = T)) 0 0 (mA mo ad) := by
  refine Met.m (by decide) (Nat.le_of_ble_eq_true rfl) ?_
  intro p e s m below meth c ls hx hb hr hts hown hlocks hml hG hl
  have hl : lv_has ls 2 [(0, .ref mo), (1, .int (zI v))] := hl
  refine lv_iload_n hx hb dX4_holds_0 rfl (lv_at hl 1 rfl) ?_
  refine lv_iconst (v := zI 0) hx hb dX4_holds_1 (by decide +kernel) ?_
  refine lv_bipush (v := zI 7) hx hb dX4_holds_2 (by decide +kernel) ?_
  refine m_ci (va_runS (As := [.int (zI v), .int (zI 0), .int (zI 7)]) (rest := []) ⟨hx, hb, hml, hown, hts⟩ (metX4_within (by omega)) (va_cwS 3 hts (lw_S q3424 q3425 q102 q3426) rfl rfl rfl (by decide +kernel) ⟨Nat.le_of_ble_eq_true rfl, Nat.le_of_ble_eq_true rfl⟩) (m_preS hG) rfl rfl hl.1 rfl (lv_room (Nat.le_of_ble_eq_true rfl)) dX4_holds_4 ⟨Nat.le_of_ble_eq_true rfl, Nat.le_of_ble_eq_true rfl⟩) hG (fun r_1 S_2 H locs hp hG => ?_)
  obtain ⟨bw1, rfl, hbw1, rfl⟩ := hp
  have hG : mW X mo ad S s H locs := hG
  refine g_eq (tgt := 19) hx hb dX4_holds_7 (by decide) (by omega) (fun h2 => ?_) (fun h2 => ?_)
  · refine lv_iconst (v := zI (-1)) hx hb dX4_holds_19 (by decide +kernel) ?_
    exact m_iret hx hb hr hlocks hG (by first | (exfalso; omega) | exact ⟨congrArg zI (by unfold opHolds; all_goals ((repeat (first | rw [if_pos (by omega)] | rw [if_neg (by omega)])) <;> rfl)), rfl⟩) ⟨Nat.le_of_ble_eq_true rfl, Nat.le_of_ble_eq_true rfl⟩ dX4_holds_20
  · obtain ⟨v1, rfl⟩ : ∃ n9 : Nat, v = n9 := ⟨v.toNat, by omega⟩
    have hshv := hX.2.2.1 v1 (by omega)
    have hokv := hA.2.1 v1
    rcases hsvv : aSv a v1 with _ | mv | ⟨sov, nv, fv⟩
    · rw [hsvv] at hshv
      have hshv : S.2.1 9 v1 = -1 := hshv
      refine lv_aload_n hx hb dX4_holds_10 rfl (lv_at hl 0 rfl) ?_
      refine m_get 9 (by decide) (v := .ref (ad 9)) rfl hx hb hts hown hG (hts _ q3305) dX4_holds_11 ?_
      refine lv_iload_n hx hb dX4_holds_14 rfl (lv_at hl 1 rfl) ?_
      refine m_iald 9 rfl rfl (by decide) v1 (v := -1) ⟨by omega, by show _ < 8; omega⟩ hshv hx hb hG dX4_holds_15 ?_
      refine lv_goto (tgt := 20) hx hb dX4_holds_16 (by decide) ?_
      exact m_iret hx hb hr hlocks hG (by first | (exfalso; omega) | exact ⟨congrArg zI (by unfold opHolds; (repeat (first | rw [if_pos (by omega)] | rw [if_neg (by omega)])); all_goals (try (simp only [Int.toNat_natCast, hsvv])); all_goals ((repeat (first | rw [if_pos (by omega)] | rw [if_neg (by omega)])) <;> rfl)), rfl⟩) ⟨Nat.le_of_ble_eq_true rfl, Nat.le_of_ble_eq_true rfl⟩ dX4_holds_20
    · rw [hsvv] at hshv hokv
      have hshv : S.2.1 9 v1 = (mv : Nat) := hshv
      have hokv : mv < wM (aWd a) := hokv
      have hMv := hA.w.m
      refine lv_aload_n hx hb dX4_holds_10 rfl (lv_at hl 0 rfl) ?_
      refine m_get 9 (by decide) (v := .ref (ad 9)) rfl hx hb hts hown hG (hts _ q3305) dX4_holds_11 ?_
      refine lv_iload_n hx hb dX4_holds_14 rfl (lv_at hl 1 rfl) ?_
      refine m_iald 9 rfl rfl (by decide) v1 (v := (mv : Int)) ⟨by omega, by show _ < 8; omega⟩ hshv hx hb hG dX4_holds_15 ?_
      refine lv_goto (tgt := 20) hx hb dX4_holds_16 (by decide) ?_
      exact m_iret hx hb hr hlocks hG (by first | (exfalso; omega) | exact ⟨congrArg zI (by unfold opHolds; (repeat (first | rw [if_pos (by omega)] | rw [if_neg (by omega)])); all_goals (try (simp only [Int.toNat_natCast, hsvv])); all_goals ((repeat (first | rw [if_pos (by omega)] | rw [if_neg (by omega)])) <;> rfl)), rfl⟩) ⟨Nat.le_of_ble_eq_true rfl, Nat.le_of_ble_eq_true rfl⟩ dX4_holds_20
    · rw [hsvv] at hshv hokv
      obtain ⟨hshv, hlnv, helv⟩ := hshv
      have hokv : sov ≤ 3 ∧ nv ≤ 160 := hokv
      refine lv_aload_n hx hb dX4_holds_10 rfl (lv_at hl 0 rfl) ?_
      refine m_get 9 (by decide) (v := .ref (ad 9)) rfl hx hb hts hown hG (hts _ q3305) dX4_holds_11 ?_
      refine lv_iload_n hx hb dX4_holds_14 rfl (lv_at hl 1 rfl) ?_
      refine m_iald 9 rfl rfl (by decide) v1 (v := (100 + (sov : Int))) ⟨by omega, by show _ < 8; omega⟩ hshv hx hb hG dX4_holds_15 ?_
      refine lv_goto (tgt := 20) hx hb dX4_holds_16 (by decide) ?_
      exact m_iret hx hb hr hlocks hG (by first | (exfalso; omega) | exact ⟨congrArg zI (by unfold opHolds; (repeat (first | rw [if_pos (by omega)] | rw [if_neg (by omega)])); all_goals (try (simp only [Int.toNat_natCast, hsvv])); all_goals ((repeat (first | rw [if_pos (by omega)] | rw [if_neg (by omega)])) <;> rfl)), rfl⟩) ⟨Nat.le_of_ble_eq_true rfl, Nat.le_of_ble_eq_true rfl⟩ dX4_holds_20

set_option maxHeartbeats 4000000 in
theorem metX4_above {l : Launch} {X : gX} {mo : Nat} {ad : Nat → Nat} {S : mS} {k : Int} (hr0 : -2147483648 ≤ k ∧ k < 2147483648) : Met l yX4_above (ws_ yX4_above cX4_above 1 (some FieldType.int)) ({ frames := 0, cells := 0, slots := 0, locals := 0 }) (mP X mo ad S [.int (zI k)]) (mQi X mo ad (fun u T => u = zI (aAbove k) ∧ S = T)) 0 0 (mA mo ad) := by
  refine Met.m (by decide) (Nat.le_of_ble_eq_true rfl) ?_
  intro p e s m below meth c ls hx hb hr hts hown hlocks hml hG hl
  have hl : lv_has ls 1 [(0, .int (zI k))] := hl
  refine lv_iload_n hx hb dX4_above_0 rfl (lv_at hl 0 rfl) ?_
  refine lv_iconst (v := zI 3) hx hb dX4_above_1 (by decide +kernel) ?_
  refine g_cne (tgt := 9) hx hb dX4_above_2 (by decide) (by omega) (fun h1 => ?_) (fun h1 => ?_)
  · refine lv_iload_n hx hb dX4_above_9 rfl (lv_at hl 0 rfl) ?_
    refine lv_iconst (v := zI 5) hx hb dX4_above_10 (by decide +kernel) ?_
    refine g_cne (tgt := 18) hx hb dX4_above_11 (by decide) (by omega) (fun h2 => ?_) (fun h2 => ?_)
    · refine lv_iload_n hx hb dX4_above_18 rfl (lv_at hl 0 rfl) ?_
      refine lv_bipush (v := zI 6) hx hb dX4_above_19 (by decide +kernel) ?_
      refine g_cne (tgt := 28) hx hb dX4_above_21 (by decide) (by omega) (fun h3 => ?_) (fun h3 => ?_)
      · refine lv_iconst (v := zI 0) hx hb dX4_above_28 (by decide +kernel) ?_
        exact m_iret hx hb hr hlocks hG (by first | (exfalso; omega) | exact ⟨congrArg zI (by unfold aAbove; all_goals ((repeat (first | rw [if_pos (by omega)] | rw [if_neg (by omega)])) <;> rfl)), rfl⟩) ⟨Nat.le_of_ble_eq_true rfl, Nat.le_of_ble_eq_true rfl⟩ dX4_above_29
      · refine lv_iconst (v := zI 3) hx hb dX4_above_24 (by decide +kernel) ?_
        refine lv_goto (tgt := 29) hx hb dX4_above_25 (by decide) ?_
        exact m_iret hx hb hr hlocks hG (by first | (exfalso; omega) | exact ⟨congrArg zI (by unfold aAbove; all_goals ((repeat (first | rw [if_pos (by omega)] | rw [if_neg (by omega)])) <;> rfl)), rfl⟩) ⟨Nat.le_of_ble_eq_true rfl, Nat.le_of_ble_eq_true rfl⟩ dX4_above_29
    · refine lv_iconst (v := zI 2) hx hb dX4_above_14 (by decide +kernel) ?_
      refine lv_goto (tgt := 29) hx hb dX4_above_15 (by decide) ?_
      exact m_iret hx hb hr hlocks hG (by first | (exfalso; omega) | exact ⟨congrArg zI (by unfold aAbove; all_goals ((repeat (first | rw [if_pos (by omega)] | rw [if_neg (by omega)])) <;> rfl)), rfl⟩) ⟨Nat.le_of_ble_eq_true rfl, Nat.le_of_ble_eq_true rfl⟩ dX4_above_29
  · refine lv_iconst (v := zI 1) hx hb dX4_above_5 (by decide +kernel) ?_
    refine lv_goto (tgt := 29) hx hb dX4_above_6 (by decide) ?_
    exact m_iret hx hb hr hlocks hG (by first | (exfalso; omega) | exact ⟨congrArg zI (by unfold aAbove; all_goals ((repeat (first | rw [if_pos (by omega)] | rw [if_neg (by omega)])) <;> rfl)), rfl⟩) ⟨Nat.le_of_ble_eq_true rfl, Nat.le_of_ble_eq_true rfl⟩ dX4_above_29

set_option maxHeartbeats 4000000 in
theorem metX4_isUnder {l : Launch} {X : gX} {mo : Nat} {ad : Nat → Nat} {S : mS} {d k : Int} (hr0 : 0 ≤ d ∧ d ≤ 6 ∧ 0 ≤ k ∧ k ≤ 6) : Met l yX4_isUnder (ws_ yX4_isUnder cX4_isUnder 3 (some FieldType.boolean)) ({ frames := 1, cells := 0, slots := 0, locals := 20 }) (mP X mo ad S [.int (zI d), .int (zI k)]) (mQi X mo ad (fun u T => ∃ b : Int, u = zI b ∧ ((b = 1 ∧ (aUnd d k = true)) ∨ (b = 0 ∧ (¬ aUnd d k = true))) ∧ S = T)) 0 0 (mA mo ad) := by
  refine Met.m (by decide) (Nat.le_of_ble_eq_true rfl) ?_
  intro p e s m below meth c ls hx hb hr hts hown hlocks hml hG hl
  have hl : lv_has ls 3 [(0, .int (zI d)), (1, .int (zI k))] := hl
  refine lv_iload_n hx hb dX4_isUnder_0 rfl (lv_at hl 0 rfl) ?_
  refine lv_istore_n (lv' := [(2, .int (zI d)), (0, .int (zI d)), (1, .int (zI k))]) hx hb dX4_isUnder_1 rfl hl (by decide) rfl (fun ls hl => ?_)
  refine g_loop (fun mz H locs ls => ∃ (up : Int), (0 ≤ up ∧ mz = up.toNat ∧ up ≤ 6 ∧ aUnd d k = aUnd up k) ∧ mW X mo ad S s H locs ∧ lv_has ls 3 [(0, .int (zI d)), (1, .int (zI k)), (2, .int (zI up))]) d.toNat ⟨d, ⟨by omega, rfl, by omega, rfl⟩, hG, (lv_sub hl [1, 2, 0] rfl)⟩ (fun mz ihA H locs ls hI => ?_)
  obtain ⟨up, ⟨hup, hmz, hup6, hu⟩, hG, hl⟩ := hI
  refine lv_iload_n hx hb dX4_isUnder_2 rfl (lv_at hl 2 rfl) ?_
  refine lv_iload_n hx hb dX4_isUnder_3 rfl (lv_at hl 1 rfl) ?_
  refine g_ceq (tgt := 19) hx hb dX4_isUnder_4 (by decide) (by omega) (fun h1 => ?_) (fun h1 => ?_)
  · refine g_join (σ := Int) 29 (fun b => (b = 1 ∧ (aUnd d k = true)) ∨ (b = 0 ∧ (¬ aUnd d k = true))) (fun b => [.int (zI b)]) (fun b hJ => ?_) (fun K => ?_)
    · exact m_zret hx hb hr hlocks (by rcases hJ with ⟨rfl, -⟩ | ⟨rfl, -⟩ <;> rfl) hG (⟨b, rfl, hJ, rfl⟩) ⟨Nat.le_of_ble_eq_true rfl, Nat.le_of_ble_eq_true rfl⟩ dX4_isUnder_29
    · refine lv_iload_n hx hb dX4_isUnder_19 rfl (lv_at hl 2 rfl) ?_
      refine lv_iload_n hx hb dX4_isUnder_20 rfl (lv_at hl 1 rfl) ?_
      refine g_cne (tgt := 28) hx hb dX4_isUnder_21 (by decide) (by omega) (fun h3 => ?_) (fun h3 => ?_)
      · refine lv_iconst (v := zI 0) hx hb dX4_isUnder_28 (by decide +kernel) ?_
        exact K 0 (Or.inr ⟨rfl, by rw [hu]; unfold aUnd; rw [decide_eq_true_iff]; omega⟩)
      · refine lv_iconst (v := zI 1) hx hb dX4_isUnder_24 (by decide +kernel) ?_
        refine lv_goto (tgt := 29) hx hb dX4_isUnder_25 (by decide) ?_
        exact K 1 (Or.inl ⟨rfl, by rw [hu]; unfold aUnd; rw [decide_eq_true_iff]; omega⟩)
  · refine lv_iload_n hx hb dX4_isUnder_7 rfl (lv_at hl 2 rfl) ?_
    refine g_le (tgt := 19) hx hb dX4_isUnder_8 (by decide) (by omega) (fun h2 => ?_) (fun h2 => ?_)
    · refine g_join (σ := Int) 29 (fun b => (b = 1 ∧ (aUnd d k = true)) ∨ (b = 0 ∧ (¬ aUnd d k = true))) (fun b => [.int (zI b)]) (fun b hJ => ?_) (fun K => ?_)
      · exact m_zret hx hb hr hlocks (by rcases hJ with ⟨rfl, -⟩ | ⟨rfl, -⟩ <;> rfl) hG (⟨b, rfl, hJ, rfl⟩) ⟨Nat.le_of_ble_eq_true rfl, Nat.le_of_ble_eq_true rfl⟩ dX4_isUnder_29
      · refine lv_iload_n hx hb dX4_isUnder_19 rfl (lv_at hl 2 rfl) ?_
        refine lv_iload_n hx hb dX4_isUnder_20 rfl (lv_at hl 1 rfl) ?_
        refine g_cne (tgt := 28) hx hb dX4_isUnder_21 (by decide) (by omega) (fun h3 => ?_) (fun h3 => ?_)
        · refine lv_iconst (v := zI 0) hx hb dX4_isUnder_28 (by decide +kernel) ?_
          exact K 0 (Or.inr ⟨rfl, by rw [hu]; unfold aUnd; rw [decide_eq_true_iff]; omega⟩)
        · refine lv_iconst (v := zI 1) hx hb dX4_isUnder_24 (by decide +kernel) ?_
          refine lv_goto (tgt := 29) hx hb dX4_isUnder_25 (by decide) ?_
          exact K 1 (Or.inl ⟨rfl, by rw [hu]; unfold aUnd; rw [decide_eq_true_iff]; omega⟩)
    · refine lv_iload_n hx hb dX4_isUnder_11 rfl (lv_at hl 2 rfl) ?_
      refine m_ci (va_runS (As := [.int (zI up)]) (rest := []) ⟨hx, hb, hml, hown, hts⟩ (metX4_above (by omega)) (va_cwS 1 hts (lw_S q3474 q3475 q102 q3476) rfl rfl rfl (by decide +kernel) ⟨Nat.le_of_ble_eq_true rfl, Nat.le_of_ble_eq_true rfl⟩) (m_preS hG) rfl rfl hl.1 rfl (lv_room (Nat.le_of_ble_eq_true rfl)) dX4_isUnder_12 ⟨Nat.le_of_ble_eq_true rfl, Nat.le_of_ble_eq_true rfl⟩) hG (fun r_1 S_2 H locs hp hG => ?_)
      obtain ⟨rfl, rfl⟩ := hp
      have hG : mW X mo ad S s H locs := hG
      refine lv_istore_n (lv' := [(2, .int (zI (aAbove up))), (0, .int (zI d)), (1, .int (zI k))]) hx hb dX4_isUnder_15 rfl hl (by decide) rfl (fun ls hl => ?_)
      refine lv_goto (tgt := 2) hx hb dX4_isUnder_16 (by decide) ?_
      exact ihA ((aAbove up).toNat) (by have q := aAbove_R hup (by omega); omega) H locs ls ⟨(aAbove up), ⟨(by have q := aAbove_R hup (by omega); omega), rfl, (by have q := aAbove_R hup (by omega); omega), by rw [hu]; exact aUnd_up (by omega) (by omega) h1⟩, hG, (lv_sub hl [1, 2, 0] rfl)⟩

set_option maxHeartbeats 4000000 in
theorem metX4_says {l : Launch} {X : gX} {mo : Nat} {ad : Nat → Nat} {S : mS} {a : aS} (hX : mX S a) (hA : aOK a) {v kind : Int} (hr0 : -2147483648 ≤ v ∧ v < 2147483648 ∧ -2147483648 ≤ kind ∧ kind < 2147483648) : Met l yX4_says (ws_ yX4_says cX4_says 4 (some FieldType.int)) ({ frames := 2, cells := 0, slots := 0, locals := 42 }) (mP X mo ad S [.ref mo, .int (zI v), .int (zI kind)]) (mQi X mo ad (fun u T => u = zI (opSays a v kind).1 ∧ mX T (opSays a v kind).2)) 0 0 (mA mo ad) := by
  refine Met.m (by decide) (Nat.le_of_ble_eq_true rfl) ?_
  intro p e s m below meth c ls hx hb hr hts hown hlocks hml hG hl
  have hl : lv_has ls 4 [(0, .ref mo), (1, .int (zI v)), (2, .int (zI kind))] := hl
  refine lv_iload_n hx hb dX4_says_0 rfl (lv_at hl 1 rfl) ?_
  refine lv_iconst (v := zI 0) hx hb dX4_says_1 (by decide +kernel) ?_
  refine lv_bipush (v := zI 7) hx hb dX4_says_2 (by decide +kernel) ?_
  refine m_ci (va_runS (As := [.int (zI v), .int (zI 0), .int (zI 7)]) (rest := []) ⟨hx, hb, hml, hown, hts⟩ (metX4_within (by omega)) (va_cwS 3 hts (lw_S q3424 q3425 q102 q3426) rfl rfl rfl (by decide +kernel) ⟨Nat.le_of_ble_eq_true rfl, Nat.le_of_ble_eq_true rfl⟩) (m_preS hG) rfl rfl hl.1 rfl (lv_room (Nat.le_of_ble_eq_true rfl)) dX4_says_4 ⟨Nat.le_of_ble_eq_true rfl, Nat.le_of_ble_eq_true rfl⟩) hG (fun r_1 S_2 H locs hp hG => ?_)
  obtain ⟨bw1, rfl, hbw1, rfl⟩ := hp
  have hG : mW X mo ad S s H locs := hG
  refine g_eq (tgt := 20) hx hb dX4_says_7 (by decide) (by omega) (fun h2 => ?_) (fun h2 => ?_)
  · refine lv_aload_n hx hb dX4_says_20 rfl (lv_at hl 0 rfl) ?_
    refine lv_iconst (v := zI (-1)) hx hb dX4_says_21 (by decide +kernel) ?_
    refine g_topz (y := -((1 : Nat) : Int)) (by decide) ?_
    refine m_ci (va_runV (As := [.int (zI (-((1 : Nat) : Int)))]) (rest := []) ⟨hx, hb, hml, hown, hts⟩ (metX4_no 1 (by decide)) (cwV 1 hts (lw_V q3427 q3429 qs43 q102 q3430) rfl rfl rfl (by decide +kernel) ⟨Nat.le_of_ble_eq_true rfl, Nat.le_of_ble_eq_true rfl⟩) (m_preV hG) rfl rfl hl.1 rfl (lv_room (Nat.le_of_ble_eq_true rfl)) dX4_says_22 ⟨Nat.le_of_ble_eq_true rfl, Nat.le_of_ble_eq_true rfl⟩) hG (fun r_3 S_4 H locs hp hG => ?_)
    obtain ⟨rfl, rfl⟩ := hp
    have hG : mW X mo ad (mNo S 1) s H locs := hG
    exact m_iret hx hb hr hlocks hG (by first | (exfalso; omega) | exact (hX.noR 1 (by unfold opSays; all_goals ((repeat (first | rw [if_pos (by omega)] | rw [if_neg (by omega)])) <;> rfl)))) ⟨Nat.le_of_ble_eq_true rfl, Nat.le_of_ble_eq_true rfl⟩ dX4_says_25
  · refine lv_iload_n hx hb dX4_says_10 rfl (lv_at hl 2 rfl) ?_
    refine lv_iconst (v := zI 0) hx hb dX4_says_11 (by decide +kernel) ?_
    refine lv_bipush (v := zI 6) hx hb dX4_says_12 (by decide +kernel) ?_
    refine m_ci (va_runS (As := [.int (zI kind), .int (zI 0), .int (zI 6)]) (rest := []) ⟨hx, hb, hml, hown, hts⟩ (metX4_within (by omega)) (va_cwS 3 hts (lw_S q3424 q3425 q102 q3426) rfl rfl rfl (by decide +kernel) ⟨Nat.le_of_ble_eq_true rfl, Nat.le_of_ble_eq_true rfl⟩) (m_preS hG) rfl rfl hl.1 rfl (lv_room (Nat.le_of_ble_eq_true rfl)) dX4_says_14 ⟨Nat.le_of_ble_eq_true rfl, Nat.le_of_ble_eq_true rfl⟩) hG (fun r_5 S_6 H locs hp hG => ?_)
    obtain ⟨bw3, rfl, hbw3, rfl⟩ := hp
    have hG : mW X mo ad S s H locs := hG
    refine g_ne (tgt := 26) hx hb dX4_says_17 (by decide) (by omega) (fun h4 => ?_) (fun h4 => ?_)
    · obtain ⟨v1, rfl⟩ : ∃ n9 : Nat, v = n9 := ⟨v.toNat, by omega⟩
      have hshv := hX.2.2.1 v1 (by omega)
      have hokv := hA.2.1 v1
      rcases hsvv : aSv a v1 with _ | mv | ⟨sov, nv, fv⟩
      · rw [hsvv] at hshv
        have hshv : S.2.1 9 v1 = -1 := hshv
        refine lv_aload_n hx hb dX4_says_26 rfl (lv_at hl 0 rfl) ?_
        refine m_get 9 (by decide) (v := .ref (ad 9)) rfl hx hb hts hown hG (hts _ q3305) dX4_says_27 ?_
        refine lv_iload_n hx hb dX4_says_30 rfl (lv_at hl 1 rfl) ?_
        refine m_iald 9 rfl rfl (by decide) v1 (v := -1) ⟨by omega, by show _ < 8; omega⟩ hshv hx hb hG dX4_says_31 ?_
        refine lv_istore_n (lv' := [(3, .int (zI (-1))), (0, .ref mo), (1, .int (zI (v1 : Int))), (2, .int (zI kind))]) hx hb dX4_says_32 rfl hl (by decide) rfl (fun ls hl => ?_)
        refine lv_iload_n hx hb dX4_says_33 rfl (lv_at hl 0 rfl) ?_
        refine g_lt (tgt := 65) hx hb dX4_says_34 (by decide) (by decide) (fun h5 => ?_) (fun h5 => ?_)
        · refine lv_iload_n hx hb dX4_says_65 rfl (lv_at hl 0 rfl) ?_
          refine g_ge (tgt := 76) hx hb dX4_says_66 (by decide) (by decide) (fun h6 => ?_) (fun h6 => ?_)
          · exfalso; omega
          · refine lv_aload_n hx hb dX4_says_69 rfl (lv_at hl 1 rfl) ?_
            refine lv_bipush (v := zI (-3)) hx hb dX4_says_70 (by decide +kernel) ?_
            refine g_topz (y := -((3 : Nat) : Int)) (by decide) ?_
            refine m_ci (va_runV (As := [.int (zI (-((3 : Nat) : Int)))]) (rest := []) ⟨hx, hb, hml, hown, hts⟩ (metX4_no 3 (by decide)) (cwV 1 hts (lw_V q3427 q3429 qs43 q102 q3430) rfl rfl rfl (by decide +kernel) ⟨Nat.le_of_ble_eq_true rfl, Nat.le_of_ble_eq_true rfl⟩) (m_preV hG) rfl rfl hl.1 rfl (lv_room (Nat.le_of_ble_eq_true rfl)) dX4_says_72 ⟨Nat.le_of_ble_eq_true rfl, Nat.le_of_ble_eq_true rfl⟩) hG (fun r_7 S_8 H locs hp hG => ?_)
            obtain ⟨rfl, rfl⟩ := hp
            have hG : mW X mo ad (mNo S 3) s H locs := hG
            exact m_iret hx hb hr hlocks hG (by first | (exfalso; omega) | exact (hX.noR 3 (by unfold opSays; (repeat (first | rw [if_pos (by omega)] | rw [if_neg (by omega)])); all_goals (try (simp only [Int.toNat_natCast, hsvv])); all_goals ((repeat (first | rw [if_pos (by omega)] | rw [if_neg (by omega)])) <;> rfl)))) ⟨Nat.le_of_ble_eq_true rfl, Nat.le_of_ble_eq_true rfl⟩ dX4_says_75
        · exfalso; omega
      · rw [hsvv] at hshv hokv
        have hshv : S.2.1 9 v1 = (mv : Nat) := hshv
        have hokv : mv < wM (aWd a) := hokv
        have hMv := hA.w.m
        refine lv_aload_n hx hb dX4_says_26 rfl (lv_at hl 0 rfl) ?_
        refine m_get 9 (by decide) (v := .ref (ad 9)) rfl hx hb hts hown hG (hts _ q3305) dX4_says_27 ?_
        refine lv_iload_n hx hb dX4_says_30 rfl (lv_at hl 1 rfl) ?_
        refine m_iald 9 rfl rfl (by decide) v1 (v := (mv : Int)) ⟨by omega, by show _ < 8; omega⟩ hshv hx hb hG dX4_says_31 ?_
        refine lv_istore_n (lv' := [(3, .int (zI (mv : Int))), (0, .ref mo), (1, .int (zI (v1 : Int))), (2, .int (zI kind))]) hx hb dX4_says_32 rfl hl (by decide) rfl (fun ls hl => ?_)
        refine lv_iload_n hx hb dX4_says_33 rfl (lv_at hl 0 rfl) ?_
        refine g_lt (tgt := 65) hx hb dX4_says_34 (by decide) (by omega) (fun h7 => ?_) (fun h7 => ?_)
        · exfalso; omega
        · refine lv_aload_n hx hb dX4_says_37 rfl (lv_at hl 1 rfl) ?_
          refine lv_iload_n hx hb dX4_says_38 rfl (lv_at hl 2 rfl) ?_
          have hq8 := hX.hold hA v1 (by omega)
          refine m_ci (va_runV (As := [.int (zI (v1 : Int))]) (rest := []) ⟨hx, hb, hml, hown, hts⟩ (metX4_isRow (k := v1) (by omega)) (cwV 1 hts (lw_V q3439 q3441 qs45 q102 q3442) rfl rfl rfl (by decide +kernel) ⟨Nat.le_of_ble_eq_true rfl, Nat.le_of_ble_eq_true rfl⟩) (m_preV hG) rfl rfl hl.1 rfl (lv_room (Nat.le_of_ble_eq_true rfl)) dX4_says_39 ⟨Nat.le_of_ble_eq_true rfl, Nat.le_of_ble_eq_true rfl⟩) hG (fun r_9 S_10 H locs hp hG => ?_)
          obtain ⟨b8, rfl, hb8, rfl⟩ := hp
          have hG : mW X mo ad S s H locs := hG
          refine g_ne (tgt := 58) hx hb dX4_says_42 (by decide) (by omega) (fun h9 => ?_) (fun h9 => ?_)
          · refine lv_aload_n hx hb dX4_says_58 rfl (lv_at hl 1 rfl) ?_
            refine lv_bipush (v := zI (-2)) hx hb dX4_says_59 (by decide +kernel) ?_
            refine g_topz (y := -((2 : Nat) : Int)) (by decide) ?_
            refine m_ci (va_runV (As := [.int (zI (-((2 : Nat) : Int)))]) (rest := []) ⟨hx, hb, hml, hown, hts⟩ (metX4_no 2 (by decide)) (cwV 1 hts (lw_V q3427 q3429 qs43 q102 q3430) rfl rfl rfl (by decide +kernel) ⟨Nat.le_of_ble_eq_true rfl, Nat.le_of_ble_eq_true rfl⟩) (m_preV hG) rfl rfl hl.1 rfl (lv_room (Nat.le_of_ble_eq_true rfl)) dX4_says_61 ⟨Nat.le_of_ble_eq_true rfl, Nat.le_of_ble_eq_true rfl⟩) hG (fun r_11 S_12 H locs hp hG => ?_)
            obtain ⟨rfl, rfl⟩ := hp
            have hG : mW X mo ad (mNo S 2) s H locs := hG
            exact m_iret hx hb hr hlocks hG (by first | (exfalso; omega) | exact (hX.noR 2 (by unfold opSays aSays; rw [if_neg (by omega), if_neg (by omega)]; simp only [Int.toNat_natCast, hsvv]; all_goals ((repeat (first | rw [if_pos hund] | rw [if_neg hund] | rw [if_pos (by omega)] | rw [if_neg (by omega)])) <;> rfl)))) ⟨Nat.le_of_ble_eq_true rfl, Nat.le_of_ble_eq_true rfl⟩ dX4_says_64
          · refine lv_aload_n hx hb dX4_says_45 rfl (lv_at hl 1 rfl) ?_
            refine lv_iconst (v := zI 0) hx hb dX4_says_46 (by decide +kernel) ?_
            refine lv_iload_n hx hb dX4_says_47 rfl (lv_at hl 0 rfl) ?_
            refine m_ci (va_runV (As := [.int (zI 0), .int (zI (mv : Int))]) (rest := []) ⟨hx, hb, hml, hown, hts⟩ (metX4_of 0 (m0 := mv) (by omega)) (cwV 2 hts (lw_V q3467 q3469 qs47 q102 q3470) rfl rfl rfl (by decide +kernel) ⟨Nat.le_of_ble_eq_true rfl, Nat.le_of_ble_eq_true rfl⟩) (m_preV hG) rfl rfl hl.1 rfl (lv_room (Nat.le_of_ble_eq_true rfl)) dX4_says_48 ⟨Nat.le_of_ble_eq_true rfl, Nat.le_of_ble_eq_true rfl⟩) hG (fun r_13 S_14 H locs hp hG => ?_)
            obtain ⟨rfl, rfl⟩ := hp
            have hG : mW X mo ad S s H locs := hG
            refine g_topz (y := (rKind (wRk (aWd a) mv) : Int)) ((congrArg (S.2.1 6) (by omega : 16 * 0 + mv = mv)).trans (hX.o.kd (m := mv) (by omega))) ?_
            have hv10 := hA.w.rk (m := mv) (by omega)
            refine lv_iload_n hx hb dX4_says_51 rfl (lv_at hl 3 rfl) ?_
            refine m_ci (va_runS (As := [.int (zI (rKind (wRk (aWd a) mv) : Int)), .int (zI kind)]) (rest := []) ⟨hx, hb, hml, hown, hts⟩ (metX4_isUnder (by omega)) (va_cwS 2 hts (lw_S q3471 q3472 q102 q3473) rfl rfl rfl (by decide +kernel) ⟨Nat.le_of_ble_eq_true rfl, Nat.le_of_ble_eq_true rfl⟩) (m_preS hG) rfl rfl hl.1 rfl (lv_room (Nat.le_of_ble_eq_true rfl)) dX4_says_52 ⟨Nat.le_of_ble_eq_true rfl, Nat.le_of_ble_eq_true rfl⟩) hG (fun r_15 S_16 H locs hp hG => ?_)
            obtain ⟨b11, rfl, hb11, rfl⟩ := hp
            have hG : mW X mo ad S s H locs := hG
            rcases hb11 with ⟨rfl, hund⟩ | ⟨rfl, hund⟩
            · refine g_ne (tgt := 65) hx hb dX4_says_55 (by decide) (by decide) (fun h12 => ?_) (fun h12 => ?_)
              · refine lv_iload_n hx hb dX4_says_65 rfl (lv_at hl 0 rfl) ?_
                refine g_ge (tgt := 76) hx hb dX4_says_66 (by decide) (by omega) (fun h13 => ?_) (fun h13 => ?_)
                · refine lv_iload_n hx hb dX4_says_76 rfl (lv_at hl 3 rfl) ?_
                  rcases (show kind = 0 ∨ kind = 1 ∨ kind = 2 ∨ kind = 3 ∨ kind = 4 ∨ kind = 5 ∨ kind = 6 by omega) with hk | hk | hk | hk | hk | hk | hk
                  · refine g_tin hx hb 0 (off := 43) (tgt := 120) dX4_says_77 hk (by decide) rfl (by decide) ?_
                    refine lv_aload_n hx hb dX4_says_120 rfl (lv_at hl 1 rfl) ?_
                    refine lv_iconst (v := zI 3) hx hb dX4_says_121 (by decide +kernel) ?_
                    refine lv_iload_n hx hb dX4_says_122 rfl (lv_at hl 0 rfl) ?_
                    refine m_ci (va_runV (As := [.int (zI 3), .int (zI (mv : Int))]) (rest := []) ⟨hx, hb, hml, hown, hts⟩ (metX4_of 3 (m0 := mv) (by omega)) (cwV 2 hts (lw_V q3467 q3469 qs47 q102 q3470) rfl rfl rfl (by decide +kernel) ⟨Nat.le_of_ble_eq_true rfl, Nat.le_of_ble_eq_true rfl⟩) (m_preV hG) rfl rfl hl.1 rfl (lv_room (Nat.le_of_ble_eq_true rfl)) dX4_says_123 ⟨Nat.le_of_ble_eq_true rfl, Nat.le_of_ble_eq_true rfl⟩) hG (fun r_17 S_18 H locs hp hG => ?_)
                    obtain ⟨rfl, rfl⟩ := hp
                    have hG : mW X mo ad S s H locs := hG
                    refine g_topz (y := (rP (wRk (aWd a) mv) : Int)) (hX.o.p (m := mv) (by omega)) ?_
                    have hv14 := hA.w.rk (m := mv) (by omega)
                    exact m_iret hx hb hr hlocks hG (by first | (exfalso; omega) | exact (hX.cast (by unfold opSays aSays; rw [if_neg (by omega), if_neg (by omega)]; simp only [Int.toNat_natCast, hsvv]; all_goals ((repeat (first | rw [if_pos hund] | rw [if_neg hund] | rw [if_pos (by omega)] | rw [if_neg (by omega)])) <;> rfl)))) ⟨Nat.le_of_ble_eq_true rfl, Nat.le_of_ble_eq_true rfl⟩ dX4_says_126
                  · refine g_tin hx hb 1 (off := 50) (tgt := 127) dX4_says_77 hk (by decide) rfl (by decide) ?_
                    refine lv_aload_n hx hb dX4_says_127 rfl (lv_at hl 1 rfl) ?_
                    refine lv_iconst (v := zI 1) hx hb dX4_says_128 (by decide +kernel) ?_
                    refine lv_iload_n hx hb dX4_says_129 rfl (lv_at hl 0 rfl) ?_
                    refine m_ci (va_runV (As := [.int (zI 1), .int (zI (mv : Int))]) (rest := []) ⟨hx, hb, hml, hown, hts⟩ (metX4_of 1 (m0 := mv) (by omega)) (cwV 2 hts (lw_V q3467 q3469 qs47 q102 q3470) rfl rfl rfl (by decide +kernel) ⟨Nat.le_of_ble_eq_true rfl, Nat.le_of_ble_eq_true rfl⟩) (m_preV hG) rfl rfl hl.1 rfl (lv_room (Nat.le_of_ble_eq_true rfl)) dX4_says_130 ⟨Nat.le_of_ble_eq_true rfl, Nat.le_of_ble_eq_true rfl⟩) hG (fun r_19 S_20 H locs hp hG => ?_)
                    obtain ⟨rfl, rfl⟩ := hp
                    have hG : mW X mo ad S s H locs := hG
                    refine g_topz (y := (rBy (wRk (aWd a) mv) : Int)) (hX.o.by (m := mv) (by omega)) ?_
                    have hv15 := hA.w.rk (m := mv) (by omega)
                    exact m_iret hx hb hr hlocks hG (by first | (exfalso; omega) | exact (hX.cast (by unfold opSays aSays; rw [if_neg (by omega), if_neg (by omega)]; simp only [Int.toNat_natCast, hsvv]; all_goals ((repeat (first | rw [if_pos hund] | rw [if_neg hund] | rw [if_pos (by omega)] | rw [if_neg (by omega)])) <;> rfl)))) ⟨Nat.le_of_ble_eq_true rfl, Nat.le_of_ble_eq_true rfl⟩ dX4_says_133
                  · refine g_tin hx hb 2 (off := 71) (tgt := 148) dX4_says_77 hk (by decide) rfl (by decide) ?_
                    refine lv_aload_n hx hb dX4_says_148 rfl (lv_at hl 1 rfl) ?_
                    refine lv_iconst (v := zI 4) hx hb dX4_says_149 (by decide +kernel) ?_
                    refine lv_iload_n hx hb dX4_says_150 rfl (lv_at hl 0 rfl) ?_
                    refine m_ci (va_runV (As := [.int (zI 4), .int (zI (mv : Int))]) (rest := []) ⟨hx, hb, hml, hown, hts⟩ (metX4_of 4 (m0 := mv) (by omega)) (cwV 2 hts (lw_V q3467 q3469 qs47 q102 q3470) rfl rfl rfl (by decide +kernel) ⟨Nat.le_of_ble_eq_true rfl, Nat.le_of_ble_eq_true rfl⟩) (m_preV hG) rfl rfl hl.1 rfl (lv_room (Nat.le_of_ble_eq_true rfl)) dX4_says_151 ⟨Nat.le_of_ble_eq_true rfl, Nat.le_of_ble_eq_true rfl⟩) hG (fun r_21 S_22 H locs hp hG => ?_)
                    obtain ⟨rfl, rfl⟩ := hp
                    have hG : mW X mo ad S s H locs := hG
                    refine g_topz (y := (rQ (wRk (aWd a) mv) : Int)) (hX.o.q (m := mv) (by omega)) ?_
                    have hv16 := hA.w.rk (m := mv) (by omega)
                    refine lv_aload_n hx hb dX4_says_154 rfl (lv_at hl 1 rfl) ?_
                    refine lv_iconst (v := zI 3) hx hb dX4_says_155 (by decide +kernel) ?_
                    refine lv_iload_n hx hb dX4_says_156 rfl (lv_at hl 0 rfl) ?_
                    refine m_ci (va_runV (As := [.int (zI 3), .int (zI (mv : Int))]) (rest := [.int (zI (rQ (wRk (aWd a) mv) : Int))]) ⟨hx, hb, hml, hown, hts⟩ (metX4_of 3 (m0 := mv) (by omega)) (cwV 2 hts (lw_V q3467 q3469 qs47 q102 q3470) rfl rfl rfl (by decide +kernel) ⟨Nat.le_of_ble_eq_true rfl, Nat.le_of_ble_eq_true rfl⟩) (m_preV hG) rfl rfl hl.1 rfl (lv_room (Nat.le_of_ble_eq_true rfl)) dX4_says_157 ⟨Nat.le_of_ble_eq_true rfl, Nat.le_of_ble_eq_true rfl⟩) hG (fun r_23 S_24 H locs hp hG => ?_)
                    obtain ⟨rfl, rfl⟩ := hp
                    have hG : mW X mo ad S s H locs := hG
                    refine g_topz (y := (rP (wRk (aWd a) mv) : Int)) (hX.o.p (m := mv) (by omega)) ?_
                    have hv17 := hA.w.rk (m := mv) (by omega)
                    refine g_isub hx hb dX4_says_160 ?_
                    refine lv_iconst (v := zI 1) hx hb dX4_says_161 (by decide +kernel) ?_
                    refine g_iadd hx hb dX4_says_162 ?_
                    exact m_iret hx hb hr hlocks hG (by first | (exfalso; omega) | exact (hX.cast (by unfold opSays aSays; rw [if_neg (by omega), if_neg (by omega)]; simp only [Int.toNat_natCast, hsvv]; all_goals ((repeat (first | rw [if_pos hund] | rw [if_neg hund] | rw [if_pos (by omega)] | rw [if_neg (by omega)])) <;> rfl)))) ⟨Nat.le_of_ble_eq_true rfl, Nat.le_of_ble_eq_true rfl⟩ dX4_says_163
                  · refine g_tin hx hb 3 (off := 50) (tgt := 127) dX4_says_77 hk (by decide) rfl (by decide) ?_
                    refine lv_aload_n hx hb dX4_says_127 rfl (lv_at hl 1 rfl) ?_
                    refine lv_iconst (v := zI 1) hx hb dX4_says_128 (by decide +kernel) ?_
                    refine lv_iload_n hx hb dX4_says_129 rfl (lv_at hl 0 rfl) ?_
                    refine m_ci (va_runV (As := [.int (zI 1), .int (zI (mv : Int))]) (rest := []) ⟨hx, hb, hml, hown, hts⟩ (metX4_of 1 (m0 := mv) (by omega)) (cwV 2 hts (lw_V q3467 q3469 qs47 q102 q3470) rfl rfl rfl (by decide +kernel) ⟨Nat.le_of_ble_eq_true rfl, Nat.le_of_ble_eq_true rfl⟩) (m_preV hG) rfl rfl hl.1 rfl (lv_room (Nat.le_of_ble_eq_true rfl)) dX4_says_130 ⟨Nat.le_of_ble_eq_true rfl, Nat.le_of_ble_eq_true rfl⟩) hG (fun r_25 S_26 H locs hp hG => ?_)
                    obtain ⟨rfl, rfl⟩ := hp
                    have hG : mW X mo ad S s H locs := hG
                    refine g_topz (y := (rBy (wRk (aWd a) mv) : Int)) (hX.o.by (m := mv) (by omega)) ?_
                    have hv18 := hA.w.rk (m := mv) (by omega)
                    exact m_iret hx hb hr hlocks hG (by first | (exfalso; omega) | exact (hX.cast (by unfold opSays aSays; rw [if_neg (by omega), if_neg (by omega)]; simp only [Int.toNat_natCast, hsvv]; all_goals ((repeat (first | rw [if_pos hund] | rw [if_neg hund] | rw [if_pos (by omega)] | rw [if_neg (by omega)])) <;> rfl)))) ⟨Nat.le_of_ble_eq_true rfl, Nat.le_of_ble_eq_true rfl⟩ dX4_says_133
                  · refine g_tin hx hb 4 (off := 57) (tgt := 134) dX4_says_77 hk (by decide) rfl (by decide) ?_
                    refine lv_aload_n hx hb dX4_says_134 rfl (lv_at hl 1 rfl) ?_
                    refine lv_iconst (v := zI 4) hx hb dX4_says_135 (by decide +kernel) ?_
                    refine lv_iload_n hx hb dX4_says_136 rfl (lv_at hl 0 rfl) ?_
                    refine m_ci (va_runV (As := [.int (zI 4), .int (zI (mv : Int))]) (rest := []) ⟨hx, hb, hml, hown, hts⟩ (metX4_of 4 (m0 := mv) (by omega)) (cwV 2 hts (lw_V q3467 q3469 qs47 q102 q3470) rfl rfl rfl (by decide +kernel) ⟨Nat.le_of_ble_eq_true rfl, Nat.le_of_ble_eq_true rfl⟩) (m_preV hG) rfl rfl hl.1 rfl (lv_room (Nat.le_of_ble_eq_true rfl)) dX4_says_137 ⟨Nat.le_of_ble_eq_true rfl, Nat.le_of_ble_eq_true rfl⟩) hG (fun r_27 S_28 H locs hp hG => ?_)
                    obtain ⟨rfl, rfl⟩ := hp
                    have hG : mW X mo ad S s H locs := hG
                    refine g_topz (y := (rQ (wRk (aWd a) mv) : Int)) (hX.o.q (m := mv) (by omega)) ?_
                    have hv19 := hA.w.rk (m := mv) (by omega)
                    exact m_iret hx hb hr hlocks hG (by first | (exfalso; omega) | exact (hX.cast (by unfold opSays aSays; rw [if_neg (by omega), if_neg (by omega)]; simp only [Int.toNat_natCast, hsvv]; all_goals ((repeat (first | rw [if_pos hund] | rw [if_neg hund] | rw [if_pos (by omega)] | rw [if_neg (by omega)])) <;> rfl)))) ⟨Nat.le_of_ble_eq_true rfl, Nat.le_of_ble_eq_true rfl⟩ dX4_says_140
                  · refine g_tin hx hb 5 (off := 71) (tgt := 148) dX4_says_77 hk (by decide) rfl (by decide) ?_
                    refine lv_aload_n hx hb dX4_says_148 rfl (lv_at hl 1 rfl) ?_
                    refine lv_iconst (v := zI 4) hx hb dX4_says_149 (by decide +kernel) ?_
                    refine lv_iload_n hx hb dX4_says_150 rfl (lv_at hl 0 rfl) ?_
                    refine m_ci (va_runV (As := [.int (zI 4), .int (zI (mv : Int))]) (rest := []) ⟨hx, hb, hml, hown, hts⟩ (metX4_of 4 (m0 := mv) (by omega)) (cwV 2 hts (lw_V q3467 q3469 qs47 q102 q3470) rfl rfl rfl (by decide +kernel) ⟨Nat.le_of_ble_eq_true rfl, Nat.le_of_ble_eq_true rfl⟩) (m_preV hG) rfl rfl hl.1 rfl (lv_room (Nat.le_of_ble_eq_true rfl)) dX4_says_151 ⟨Nat.le_of_ble_eq_true rfl, Nat.le_of_ble_eq_true rfl⟩) hG (fun r_29 S_30 H locs hp hG => ?_)
                    obtain ⟨rfl, rfl⟩ := hp
                    have hG : mW X mo ad S s H locs := hG
                    refine g_topz (y := (rQ (wRk (aWd a) mv) : Int)) (hX.o.q (m := mv) (by omega)) ?_
                    have hv20 := hA.w.rk (m := mv) (by omega)
                    refine lv_aload_n hx hb dX4_says_154 rfl (lv_at hl 1 rfl) ?_
                    refine lv_iconst (v := zI 3) hx hb dX4_says_155 (by decide +kernel) ?_
                    refine lv_iload_n hx hb dX4_says_156 rfl (lv_at hl 0 rfl) ?_
                    refine m_ci (va_runV (As := [.int (zI 3), .int (zI (mv : Int))]) (rest := [.int (zI (rQ (wRk (aWd a) mv) : Int))]) ⟨hx, hb, hml, hown, hts⟩ (metX4_of 3 (m0 := mv) (by omega)) (cwV 2 hts (lw_V q3467 q3469 qs47 q102 q3470) rfl rfl rfl (by decide +kernel) ⟨Nat.le_of_ble_eq_true rfl, Nat.le_of_ble_eq_true rfl⟩) (m_preV hG) rfl rfl hl.1 rfl (lv_room (Nat.le_of_ble_eq_true rfl)) dX4_says_157 ⟨Nat.le_of_ble_eq_true rfl, Nat.le_of_ble_eq_true rfl⟩) hG (fun r_31 S_32 H locs hp hG => ?_)
                    obtain ⟨rfl, rfl⟩ := hp
                    have hG : mW X mo ad S s H locs := hG
                    refine g_topz (y := (rP (wRk (aWd a) mv) : Int)) (hX.o.p (m := mv) (by omega)) ?_
                    have hv21 := hA.w.rk (m := mv) (by omega)
                    refine g_isub hx hb dX4_says_160 ?_
                    refine lv_iconst (v := zI 1) hx hb dX4_says_161 (by decide +kernel) ?_
                    refine g_iadd hx hb dX4_says_162 ?_
                    exact m_iret hx hb hr hlocks hG (by first | (exfalso; omega) | exact (hX.cast (by unfold opSays aSays; rw [if_neg (by omega), if_neg (by omega)]; simp only [Int.toNat_natCast, hsvv]; all_goals ((repeat (first | rw [if_pos hund] | rw [if_neg hund] | rw [if_pos (by omega)] | rw [if_neg (by omega)])) <;> rfl)))) ⟨Nat.le_of_ble_eq_true rfl, Nat.le_of_ble_eq_true rfl⟩ dX4_says_163
                  · refine g_tin hx hb 6 (off := 64) (tgt := 141) dX4_says_77 hk (by decide) rfl (by decide) ?_
                    refine lv_aload_n hx hb dX4_says_141 rfl (lv_at hl 1 rfl) ?_
                    refine lv_iconst (v := zI 2) hx hb dX4_says_142 (by decide +kernel) ?_
                    refine lv_iload_n hx hb dX4_says_143 rfl (lv_at hl 0 rfl) ?_
                    refine m_ci (va_runV (As := [.int (zI 2), .int (zI (mv : Int))]) (rest := []) ⟨hx, hb, hml, hown, hts⟩ (metX4_of 2 (m0 := mv) (by omega)) (cwV 2 hts (lw_V q3467 q3469 qs47 q102 q3470) rfl rfl rfl (by decide +kernel) ⟨Nat.le_of_ble_eq_true rfl, Nat.le_of_ble_eq_true rfl⟩) (m_preV hG) rfl rfl hl.1 rfl (lv_room (Nat.le_of_ble_eq_true rfl)) dX4_says_144 ⟨Nat.le_of_ble_eq_true rfl, Nat.le_of_ble_eq_true rfl⟩) hG (fun r_33 S_34 H locs hp hG => ?_)
                    obtain ⟨rfl, rfl⟩ := hp
                    have hG : mW X mo ad S s H locs := hG
                    refine g_topz (y := (rOn (wRk (aWd a) mv) : Int)) (hX.o.on (m := mv) (by omega)) ?_
                    have hv22 := hA.w.rk (m := mv) (by omega)
                    exact m_iret hx hb hr hlocks hG (by first | (exfalso; omega) | exact (hX.cast (by unfold opSays aSays; rw [if_neg (by omega), if_neg (by omega)]; simp only [Int.toNat_natCast, hsvv]; all_goals ((repeat (first | rw [if_pos hund] | rw [if_neg hund] | rw [if_pos (by omega)] | rw [if_neg (by omega)])) <;> rfl)))) ⟨Nat.le_of_ble_eq_true rfl, Nat.le_of_ble_eq_true rfl⟩ dX4_says_147
                · exfalso; omega
              · exfalso; omega
            · refine g_ne (tgt := 65) hx hb dX4_says_55 (by decide) (by decide) (fun h23 => ?_) (fun h23 => ?_)
              · exfalso; omega
              · refine lv_aload_n hx hb dX4_says_58 rfl (lv_at hl 1 rfl) ?_
                refine lv_bipush (v := zI (-2)) hx hb dX4_says_59 (by decide +kernel) ?_
                refine g_topz (y := -((2 : Nat) : Int)) (by decide) ?_
                refine m_ci (va_runV (As := [.int (zI (-((2 : Nat) : Int)))]) (rest := []) ⟨hx, hb, hml, hown, hts⟩ (metX4_no 2 (by decide)) (cwV 1 hts (lw_V q3427 q3429 qs43 q102 q3430) rfl rfl rfl (by decide +kernel) ⟨Nat.le_of_ble_eq_true rfl, Nat.le_of_ble_eq_true rfl⟩) (m_preV hG) rfl rfl hl.1 rfl (lv_room (Nat.le_of_ble_eq_true rfl)) dX4_says_61 ⟨Nat.le_of_ble_eq_true rfl, Nat.le_of_ble_eq_true rfl⟩) hG (fun r_35 S_36 H locs hp hG => ?_)
                obtain ⟨rfl, rfl⟩ := hp
                have hG : mW X mo ad (mNo S 2) s H locs := hG
                exact m_iret hx hb hr hlocks hG (by first | (exfalso; omega) | exact (hX.noR 2 (by unfold opSays aSays; rw [if_neg (by omega), if_neg (by omega)]; simp only [Int.toNat_natCast, hsvv]; all_goals ((repeat (first | rw [if_pos hund] | rw [if_neg hund] | rw [if_pos (by omega)] | rw [if_neg (by omega)])) <;> rfl)))) ⟨Nat.le_of_ble_eq_true rfl, Nat.le_of_ble_eq_true rfl⟩ dX4_says_64
      · rw [hsvv] at hshv hokv
        obtain ⟨hshv, hlnv, helv⟩ := hshv
        have hokv : sov ≤ 3 ∧ nv ≤ 160 := hokv
        refine lv_aload_n hx hb dX4_says_26 rfl (lv_at hl 0 rfl) ?_
        refine m_get 9 (by decide) (v := .ref (ad 9)) rfl hx hb hts hown hG (hts _ q3305) dX4_says_27 ?_
        refine lv_iload_n hx hb dX4_says_30 rfl (lv_at hl 1 rfl) ?_
        refine m_iald 9 rfl rfl (by decide) v1 (v := (100 + (sov : Int))) ⟨by omega, by show _ < 8; omega⟩ hshv hx hb hG dX4_says_31 ?_
        refine lv_istore_n (lv' := [(3, .int (zI (100 + (sov : Int)))), (0, .ref mo), (1, .int (zI (v1 : Int))), (2, .int (zI kind))]) hx hb dX4_says_32 rfl hl (by decide) rfl (fun ls hl => ?_)
        refine lv_iload_n hx hb dX4_says_33 rfl (lv_at hl 0 rfl) ?_
        refine g_lt (tgt := 65) hx hb dX4_says_34 (by decide) (by omega) (fun h24 => ?_) (fun h24 => ?_)
        · exfalso; omega
        · refine lv_aload_n hx hb dX4_says_37 rfl (lv_at hl 1 rfl) ?_
          refine lv_iload_n hx hb dX4_says_38 rfl (lv_at hl 2 rfl) ?_
          have hq25 := hX.hold hA v1 (by omega)
          refine m_ci (va_runV (As := [.int (zI (v1 : Int))]) (rest := []) ⟨hx, hb, hml, hown, hts⟩ (metX4_isRow (k := v1) (by omega)) (cwV 1 hts (lw_V q3439 q3441 qs45 q102 q3442) rfl rfl rfl (by decide +kernel) ⟨Nat.le_of_ble_eq_true rfl, Nat.le_of_ble_eq_true rfl⟩) (m_preV hG) rfl rfl hl.1 rfl (lv_room (Nat.le_of_ble_eq_true rfl)) dX4_says_39 ⟨Nat.le_of_ble_eq_true rfl, Nat.le_of_ble_eq_true rfl⟩) hG (fun r_37 S_38 H locs hp hG => ?_)
          obtain ⟨b25, rfl, hb25, rfl⟩ := hp
          have hG : mW X mo ad S s H locs := hG
          refine g_ne (tgt := 58) hx hb dX4_says_42 (by decide) (by omega) (fun h26 => ?_) (fun h26 => ?_)
          · refine lv_aload_n hx hb dX4_says_58 rfl (lv_at hl 1 rfl) ?_
            refine lv_bipush (v := zI (-2)) hx hb dX4_says_59 (by decide +kernel) ?_
            refine g_topz (y := -((2 : Nat) : Int)) (by decide) ?_
            refine m_ci (va_runV (As := [.int (zI (-((2 : Nat) : Int)))]) (rest := []) ⟨hx, hb, hml, hown, hts⟩ (metX4_no 2 (by decide)) (cwV 1 hts (lw_V q3427 q3429 qs43 q102 q3430) rfl rfl rfl (by decide +kernel) ⟨Nat.le_of_ble_eq_true rfl, Nat.le_of_ble_eq_true rfl⟩) (m_preV hG) rfl rfl hl.1 rfl (lv_room (Nat.le_of_ble_eq_true rfl)) dX4_says_61 ⟨Nat.le_of_ble_eq_true rfl, Nat.le_of_ble_eq_true rfl⟩) hG (fun r_39 S_40 H locs hp hG => ?_)
            obtain ⟨rfl, rfl⟩ := hp
            have hG : mW X mo ad (mNo S 2) s H locs := hG
            exact m_iret hx hb hr hlocks hG (by first | (exfalso; omega) | exact (hX.noR 2 (by unfold opSays; (repeat (first | rw [if_pos (by omega)] | rw [if_neg (by omega)])); all_goals (try (simp only [Int.toNat_natCast, hsvv])); all_goals ((repeat (first | rw [if_pos (by omega)] | rw [if_neg (by omega)])) <;> rfl)))) ⟨Nat.le_of_ble_eq_true rfl, Nat.le_of_ble_eq_true rfl⟩ dX4_says_64
          · refine lv_aload_n hx hb dX4_says_45 rfl (lv_at hl 1 rfl) ?_
            refine lv_iconst (v := zI 0) hx hb dX4_says_46 (by decide +kernel) ?_
            refine lv_iload_n hx hb dX4_says_47 rfl (lv_at hl 0 rfl) ?_
            refine m_ci (va_runV (As := [.int (zI 0), .int (zI (100 + (sov : Int)))]) (rest := []) ⟨hx, hb, hml, hown, hts⟩ (metX4_of 0 (m0 := (100 + sov)) (by omega)) (cwV 2 hts (lw_V q3467 q3469 qs47 q102 q3470) rfl rfl rfl (by decide +kernel) ⟨Nat.le_of_ble_eq_true rfl, Nat.le_of_ble_eq_true rfl⟩) (m_preV hG) rfl rfl hl.1 rfl (lv_room (Nat.le_of_ble_eq_true rfl)) dX4_says_48 ⟨Nat.le_of_ble_eq_true rfl, Nat.le_of_ble_eq_true rfl⟩) hG (fun r_41 S_42 H locs hp hG => ?_)
            obtain ⟨rfl, rfl⟩ := hp
            have hG : mW X mo ad S s H locs := hG
            refine g_topz (y := (rKind (wRk (aWd a) (100 + sov)) : Int)) ((congrArg (S.2.1 6) (by omega : 16 * 0 + (100 + sov) = (100 + sov))).trans (hX.o.kd (m := (100 + sov)) (by omega))) ?_
            have hv27 := hA.w.rk (m := (100 + sov)) (by omega)
            refine lv_iload_n hx hb dX4_says_51 rfl (lv_at hl 3 rfl) ?_
            refine m_ci (va_runS (As := [.int (zI (rKind (wRk (aWd a) (100 + sov)) : Int)), .int (zI kind)]) (rest := []) ⟨hx, hb, hml, hown, hts⟩ (metX4_isUnder (by omega)) (va_cwS 2 hts (lw_S q3471 q3472 q102 q3473) rfl rfl rfl (by decide +kernel) ⟨Nat.le_of_ble_eq_true rfl, Nat.le_of_ble_eq_true rfl⟩) (m_preS hG) rfl rfl hl.1 rfl (lv_room (Nat.le_of_ble_eq_true rfl)) dX4_says_52 ⟨Nat.le_of_ble_eq_true rfl, Nat.le_of_ble_eq_true rfl⟩) hG (fun r_43 S_44 H locs hp hG => ?_)
            obtain ⟨b28, rfl, hb28, rfl⟩ := hp
            have hG : mW X mo ad S s H locs := hG
            rcases hb28 with ⟨rfl, hund⟩ | ⟨rfl, hund⟩
            · refine g_ne (tgt := 65) hx hb dX4_says_55 (by decide) (by decide) (fun h29 => ?_) (fun h29 => ?_)
              · refine lv_iload_n hx hb dX4_says_65 rfl (lv_at hl 0 rfl) ?_
                refine g_ge (tgt := 76) hx hb dX4_says_66 (by decide) (by omega) (fun h30 => ?_) (fun h30 => ?_)
                · refine lv_iload_n hx hb dX4_says_76 rfl (lv_at hl 3 rfl) ?_
                  rcases (show kind = 0 ∨ kind = 1 ∨ kind = 2 ∨ kind = 3 ∨ kind = 4 ∨ kind = 5 ∨ kind = 6 by omega) with hk | hk | hk | hk | hk | hk | hk
                  · refine g_tin hx hb 0 (off := 43) (tgt := 120) dX4_says_77 hk (by decide) rfl (by decide) ?_
                    refine lv_aload_n hx hb dX4_says_120 rfl (lv_at hl 1 rfl) ?_
                    refine lv_iconst (v := zI 3) hx hb dX4_says_121 (by decide +kernel) ?_
                    refine lv_iload_n hx hb dX4_says_122 rfl (lv_at hl 0 rfl) ?_
                    refine m_ci (va_runV (As := [.int (zI 3), .int (zI (100 + (sov : Int)))]) (rest := []) ⟨hx, hb, hml, hown, hts⟩ (metX4_of 3 (m0 := (100 + sov)) (by omega)) (cwV 2 hts (lw_V q3467 q3469 qs47 q102 q3470) rfl rfl rfl (by decide +kernel) ⟨Nat.le_of_ble_eq_true rfl, Nat.le_of_ble_eq_true rfl⟩) (m_preV hG) rfl rfl hl.1 rfl (lv_room (Nat.le_of_ble_eq_true rfl)) dX4_says_123 ⟨Nat.le_of_ble_eq_true rfl, Nat.le_of_ble_eq_true rfl⟩) hG (fun r_45 S_46 H locs hp hG => ?_)
                    obtain ⟨rfl, rfl⟩ := hp
                    have hG : mW X mo ad S s H locs := hG
                    refine g_topz (y := (rP (wRk (aWd a) (100 + sov)) : Int)) (hX.o.p (m := (100 + sov)) (by omega)) ?_
                    have hv31 := hA.w.rk (m := (100 + sov)) (by omega)
                    exact m_iret hx hb hr hlocks hG (by first | (exfalso; omega) | exact (hX.cast (by unfold opSays; (repeat (first | rw [if_pos (by omega)] | rw [if_neg (by omega)])); all_goals (try (simp only [Int.toNat_natCast, hsvv])); all_goals ((repeat (first | rw [if_pos (by omega)] | rw [if_neg (by omega)])) <;> rfl)))) ⟨Nat.le_of_ble_eq_true rfl, Nat.le_of_ble_eq_true rfl⟩ dX4_says_126
                  · refine g_tin hx hb 1 (off := 50) (tgt := 127) dX4_says_77 hk (by decide) rfl (by decide) ?_
                    refine lv_aload_n hx hb dX4_says_127 rfl (lv_at hl 1 rfl) ?_
                    refine lv_iconst (v := zI 1) hx hb dX4_says_128 (by decide +kernel) ?_
                    refine lv_iload_n hx hb dX4_says_129 rfl (lv_at hl 0 rfl) ?_
                    refine m_ci (va_runV (As := [.int (zI 1), .int (zI (100 + (sov : Int)))]) (rest := []) ⟨hx, hb, hml, hown, hts⟩ (metX4_of 1 (m0 := (100 + sov)) (by omega)) (cwV 2 hts (lw_V q3467 q3469 qs47 q102 q3470) rfl rfl rfl (by decide +kernel) ⟨Nat.le_of_ble_eq_true rfl, Nat.le_of_ble_eq_true rfl⟩) (m_preV hG) rfl rfl hl.1 rfl (lv_room (Nat.le_of_ble_eq_true rfl)) dX4_says_130 ⟨Nat.le_of_ble_eq_true rfl, Nat.le_of_ble_eq_true rfl⟩) hG (fun r_47 S_48 H locs hp hG => ?_)
                    obtain ⟨rfl, rfl⟩ := hp
                    have hG : mW X mo ad S s H locs := hG
                    refine g_topz (y := (rBy (wRk (aWd a) (100 + sov)) : Int)) (hX.o.by (m := (100 + sov)) (by omega)) ?_
                    have hv32 := hA.w.rk (m := (100 + sov)) (by omega)
                    exact m_iret hx hb hr hlocks hG (by first | (exfalso; omega) | exact (hX.cast (by unfold opSays; (repeat (first | rw [if_pos (by omega)] | rw [if_neg (by omega)])); all_goals (try (simp only [Int.toNat_natCast, hsvv])); all_goals ((repeat (first | rw [if_pos (by omega)] | rw [if_neg (by omega)])) <;> rfl)))) ⟨Nat.le_of_ble_eq_true rfl, Nat.le_of_ble_eq_true rfl⟩ dX4_says_133
                  · refine g_tin hx hb 2 (off := 71) (tgt := 148) dX4_says_77 hk (by decide) rfl (by decide) ?_
                    refine lv_aload_n hx hb dX4_says_148 rfl (lv_at hl 1 rfl) ?_
                    refine lv_iconst (v := zI 4) hx hb dX4_says_149 (by decide +kernel) ?_
                    refine lv_iload_n hx hb dX4_says_150 rfl (lv_at hl 0 rfl) ?_
                    refine m_ci (va_runV (As := [.int (zI 4), .int (zI (100 + (sov : Int)))]) (rest := []) ⟨hx, hb, hml, hown, hts⟩ (metX4_of 4 (m0 := (100 + sov)) (by omega)) (cwV 2 hts (lw_V q3467 q3469 qs47 q102 q3470) rfl rfl rfl (by decide +kernel) ⟨Nat.le_of_ble_eq_true rfl, Nat.le_of_ble_eq_true rfl⟩) (m_preV hG) rfl rfl hl.1 rfl (lv_room (Nat.le_of_ble_eq_true rfl)) dX4_says_151 ⟨Nat.le_of_ble_eq_true rfl, Nat.le_of_ble_eq_true rfl⟩) hG (fun r_49 S_50 H locs hp hG => ?_)
                    obtain ⟨rfl, rfl⟩ := hp
                    have hG : mW X mo ad S s H locs := hG
                    refine g_topz (y := (rQ (wRk (aWd a) (100 + sov)) : Int)) (hX.o.q (m := (100 + sov)) (by omega)) ?_
                    have hv33 := hA.w.rk (m := (100 + sov)) (by omega)
                    refine lv_aload_n hx hb dX4_says_154 rfl (lv_at hl 1 rfl) ?_
                    refine lv_iconst (v := zI 3) hx hb dX4_says_155 (by decide +kernel) ?_
                    refine lv_iload_n hx hb dX4_says_156 rfl (lv_at hl 0 rfl) ?_
                    refine m_ci (va_runV (As := [.int (zI 3), .int (zI (100 + (sov : Int)))]) (rest := [.int (zI (rQ (wRk (aWd a) (100 + sov)) : Int))]) ⟨hx, hb, hml, hown, hts⟩ (metX4_of 3 (m0 := (100 + sov)) (by omega)) (cwV 2 hts (lw_V q3467 q3469 qs47 q102 q3470) rfl rfl rfl (by decide +kernel) ⟨Nat.le_of_ble_eq_true rfl, Nat.le_of_ble_eq_true rfl⟩) (m_preV hG) rfl rfl hl.1 rfl (lv_room (Nat.le_of_ble_eq_true rfl)) dX4_says_157 ⟨Nat.le_of_ble_eq_true rfl, Nat.le_of_ble_eq_true rfl⟩) hG (fun r_51 S_52 H locs hp hG => ?_)
                    obtain ⟨rfl, rfl⟩ := hp
                    have hG : mW X mo ad S s H locs := hG
                    refine g_topz (y := (rP (wRk (aWd a) (100 + sov)) : Int)) (hX.o.p (m := (100 + sov)) (by omega)) ?_
                    have hv34 := hA.w.rk (m := (100 + sov)) (by omega)
                    refine g_isub hx hb dX4_says_160 ?_
                    refine lv_iconst (v := zI 1) hx hb dX4_says_161 (by decide +kernel) ?_
                    refine g_iadd hx hb dX4_says_162 ?_
                    exact m_iret hx hb hr hlocks hG (by first | (exfalso; omega) | exact (hX.cast (by unfold opSays; (repeat (first | rw [if_pos (by omega)] | rw [if_neg (by omega)])); all_goals (try (simp only [Int.toNat_natCast, hsvv])); all_goals ((repeat (first | rw [if_pos (by omega)] | rw [if_neg (by omega)])) <;> rfl)))) ⟨Nat.le_of_ble_eq_true rfl, Nat.le_of_ble_eq_true rfl⟩ dX4_says_163
                  · refine g_tin hx hb 3 (off := 50) (tgt := 127) dX4_says_77 hk (by decide) rfl (by decide) ?_
                    refine lv_aload_n hx hb dX4_says_127 rfl (lv_at hl 1 rfl) ?_
                    refine lv_iconst (v := zI 1) hx hb dX4_says_128 (by decide +kernel) ?_
                    refine lv_iload_n hx hb dX4_says_129 rfl (lv_at hl 0 rfl) ?_
                    refine m_ci (va_runV (As := [.int (zI 1), .int (zI (100 + (sov : Int)))]) (rest := []) ⟨hx, hb, hml, hown, hts⟩ (metX4_of 1 (m0 := (100 + sov)) (by omega)) (cwV 2 hts (lw_V q3467 q3469 qs47 q102 q3470) rfl rfl rfl (by decide +kernel) ⟨Nat.le_of_ble_eq_true rfl, Nat.le_of_ble_eq_true rfl⟩) (m_preV hG) rfl rfl hl.1 rfl (lv_room (Nat.le_of_ble_eq_true rfl)) dX4_says_130 ⟨Nat.le_of_ble_eq_true rfl, Nat.le_of_ble_eq_true rfl⟩) hG (fun r_53 S_54 H locs hp hG => ?_)
                    obtain ⟨rfl, rfl⟩ := hp
                    have hG : mW X mo ad S s H locs := hG
                    refine g_topz (y := (rBy (wRk (aWd a) (100 + sov)) : Int)) (hX.o.by (m := (100 + sov)) (by omega)) ?_
                    have hv35 := hA.w.rk (m := (100 + sov)) (by omega)
                    exact m_iret hx hb hr hlocks hG (by first | (exfalso; omega) | exact (hX.cast (by unfold opSays; (repeat (first | rw [if_pos (by omega)] | rw [if_neg (by omega)])); all_goals (try (simp only [Int.toNat_natCast, hsvv])); all_goals ((repeat (first | rw [if_pos (by omega)] | rw [if_neg (by omega)])) <;> rfl)))) ⟨Nat.le_of_ble_eq_true rfl, Nat.le_of_ble_eq_true rfl⟩ dX4_says_133
                  · refine g_tin hx hb 4 (off := 57) (tgt := 134) dX4_says_77 hk (by decide) rfl (by decide) ?_
                    refine lv_aload_n hx hb dX4_says_134 rfl (lv_at hl 1 rfl) ?_
                    refine lv_iconst (v := zI 4) hx hb dX4_says_135 (by decide +kernel) ?_
                    refine lv_iload_n hx hb dX4_says_136 rfl (lv_at hl 0 rfl) ?_
                    refine m_ci (va_runV (As := [.int (zI 4), .int (zI (100 + (sov : Int)))]) (rest := []) ⟨hx, hb, hml, hown, hts⟩ (metX4_of 4 (m0 := (100 + sov)) (by omega)) (cwV 2 hts (lw_V q3467 q3469 qs47 q102 q3470) rfl rfl rfl (by decide +kernel) ⟨Nat.le_of_ble_eq_true rfl, Nat.le_of_ble_eq_true rfl⟩) (m_preV hG) rfl rfl hl.1 rfl (lv_room (Nat.le_of_ble_eq_true rfl)) dX4_says_137 ⟨Nat.le_of_ble_eq_true rfl, Nat.le_of_ble_eq_true rfl⟩) hG (fun r_55 S_56 H locs hp hG => ?_)
                    obtain ⟨rfl, rfl⟩ := hp
                    have hG : mW X mo ad S s H locs := hG
                    refine g_topz (y := (rQ (wRk (aWd a) (100 + sov)) : Int)) (hX.o.q (m := (100 + sov)) (by omega)) ?_
                    have hv36 := hA.w.rk (m := (100 + sov)) (by omega)
                    exact m_iret hx hb hr hlocks hG (by first | (exfalso; omega) | exact (hX.cast (by unfold opSays; (repeat (first | rw [if_pos (by omega)] | rw [if_neg (by omega)])); all_goals (try (simp only [Int.toNat_natCast, hsvv])); all_goals ((repeat (first | rw [if_pos (by omega)] | rw [if_neg (by omega)])) <;> rfl)))) ⟨Nat.le_of_ble_eq_true rfl, Nat.le_of_ble_eq_true rfl⟩ dX4_says_140
                  · refine g_tin hx hb 5 (off := 71) (tgt := 148) dX4_says_77 hk (by decide) rfl (by decide) ?_
                    refine lv_aload_n hx hb dX4_says_148 rfl (lv_at hl 1 rfl) ?_
                    refine lv_iconst (v := zI 4) hx hb dX4_says_149 (by decide +kernel) ?_
                    refine lv_iload_n hx hb dX4_says_150 rfl (lv_at hl 0 rfl) ?_
                    refine m_ci (va_runV (As := [.int (zI 4), .int (zI (100 + (sov : Int)))]) (rest := []) ⟨hx, hb, hml, hown, hts⟩ (metX4_of 4 (m0 := (100 + sov)) (by omega)) (cwV 2 hts (lw_V q3467 q3469 qs47 q102 q3470) rfl rfl rfl (by decide +kernel) ⟨Nat.le_of_ble_eq_true rfl, Nat.le_of_ble_eq_true rfl⟩) (m_preV hG) rfl rfl hl.1 rfl (lv_room (Nat.le_of_ble_eq_true rfl)) dX4_says_151 ⟨Nat.le_of_ble_eq_true rfl, Nat.le_of_ble_eq_true rfl⟩) hG (fun r_57 S_58 H locs hp hG => ?_)
                    obtain ⟨rfl, rfl⟩ := hp
                    have hG : mW X mo ad S s H locs := hG
                    refine g_topz (y := (rQ (wRk (aWd a) (100 + sov)) : Int)) (hX.o.q (m := (100 + sov)) (by omega)) ?_
                    have hv37 := hA.w.rk (m := (100 + sov)) (by omega)
                    refine lv_aload_n hx hb dX4_says_154 rfl (lv_at hl 1 rfl) ?_
                    refine lv_iconst (v := zI 3) hx hb dX4_says_155 (by decide +kernel) ?_
                    refine lv_iload_n hx hb dX4_says_156 rfl (lv_at hl 0 rfl) ?_
                    refine m_ci (va_runV (As := [.int (zI 3), .int (zI (100 + (sov : Int)))]) (rest := [.int (zI (rQ (wRk (aWd a) (100 + sov)) : Int))]) ⟨hx, hb, hml, hown, hts⟩ (metX4_of 3 (m0 := (100 + sov)) (by omega)) (cwV 2 hts (lw_V q3467 q3469 qs47 q102 q3470) rfl rfl rfl (by decide +kernel) ⟨Nat.le_of_ble_eq_true rfl, Nat.le_of_ble_eq_true rfl⟩) (m_preV hG) rfl rfl hl.1 rfl (lv_room (Nat.le_of_ble_eq_true rfl)) dX4_says_157 ⟨Nat.le_of_ble_eq_true rfl, Nat.le_of_ble_eq_true rfl⟩) hG (fun r_59 S_60 H locs hp hG => ?_)
                    obtain ⟨rfl, rfl⟩ := hp
                    have hG : mW X mo ad S s H locs := hG
                    refine g_topz (y := (rP (wRk (aWd a) (100 + sov)) : Int)) (hX.o.p (m := (100 + sov)) (by omega)) ?_
                    have hv38 := hA.w.rk (m := (100 + sov)) (by omega)
                    refine g_isub hx hb dX4_says_160 ?_
                    refine lv_iconst (v := zI 1) hx hb dX4_says_161 (by decide +kernel) ?_
                    refine g_iadd hx hb dX4_says_162 ?_
                    exact m_iret hx hb hr hlocks hG (by first | (exfalso; omega) | exact (hX.cast (by unfold opSays; (repeat (first | rw [if_pos (by omega)] | rw [if_neg (by omega)])); all_goals (try (simp only [Int.toNat_natCast, hsvv])); all_goals ((repeat (first | rw [if_pos (by omega)] | rw [if_neg (by omega)])) <;> rfl)))) ⟨Nat.le_of_ble_eq_true rfl, Nat.le_of_ble_eq_true rfl⟩ dX4_says_163
                  · refine g_tin hx hb 6 (off := 64) (tgt := 141) dX4_says_77 hk (by decide) rfl (by decide) ?_
                    refine lv_aload_n hx hb dX4_says_141 rfl (lv_at hl 1 rfl) ?_
                    refine lv_iconst (v := zI 2) hx hb dX4_says_142 (by decide +kernel) ?_
                    refine lv_iload_n hx hb dX4_says_143 rfl (lv_at hl 0 rfl) ?_
                    refine m_ci (va_runV (As := [.int (zI 2), .int (zI (100 + (sov : Int)))]) (rest := []) ⟨hx, hb, hml, hown, hts⟩ (metX4_of 2 (m0 := (100 + sov)) (by omega)) (cwV 2 hts (lw_V q3467 q3469 qs47 q102 q3470) rfl rfl rfl (by decide +kernel) ⟨Nat.le_of_ble_eq_true rfl, Nat.le_of_ble_eq_true rfl⟩) (m_preV hG) rfl rfl hl.1 rfl (lv_room (Nat.le_of_ble_eq_true rfl)) dX4_says_144 ⟨Nat.le_of_ble_eq_true rfl, Nat.le_of_ble_eq_true rfl⟩) hG (fun r_61 S_62 H locs hp hG => ?_)
                    obtain ⟨rfl, rfl⟩ := hp
                    have hG : mW X mo ad S s H locs := hG
                    refine g_topz (y := (rOn (wRk (aWd a) (100 + sov)) : Int)) (hX.o.on (m := (100 + sov)) (by omega)) ?_
                    have hv39 := hA.w.rk (m := (100 + sov)) (by omega)
                    exact m_iret hx hb hr hlocks hG (by first | (exfalso; omega) | exact (hX.cast (by unfold opSays; (repeat (first | rw [if_pos (by omega)] | rw [if_neg (by omega)])); all_goals (try (simp only [Int.toNat_natCast, hsvv])); all_goals ((repeat (first | rw [if_pos (by omega)] | rw [if_neg (by omega)])) <;> rfl)))) ⟨Nat.le_of_ble_eq_true rfl, Nat.le_of_ble_eq_true rfl⟩ dX4_says_147
                · exfalso; omega
              · exfalso; omega
            · refine g_ne (tgt := 65) hx hb dX4_says_55 (by decide) (by decide) (fun h40 => ?_) (fun h40 => ?_)
              · exfalso; omega
              · refine lv_aload_n hx hb dX4_says_58 rfl (lv_at hl 1 rfl) ?_
                refine lv_bipush (v := zI (-2)) hx hb dX4_says_59 (by decide +kernel) ?_
                refine g_topz (y := -((2 : Nat) : Int)) (by decide) ?_
                refine m_ci (va_runV (As := [.int (zI (-((2 : Nat) : Int)))]) (rest := []) ⟨hx, hb, hml, hown, hts⟩ (metX4_no 2 (by decide)) (cwV 1 hts (lw_V q3427 q3429 qs43 q102 q3430) rfl rfl rfl (by decide +kernel) ⟨Nat.le_of_ble_eq_true rfl, Nat.le_of_ble_eq_true rfl⟩) (m_preV hG) rfl rfl hl.1 rfl (lv_room (Nat.le_of_ble_eq_true rfl)) dX4_says_61 ⟨Nat.le_of_ble_eq_true rfl, Nat.le_of_ble_eq_true rfl⟩) hG (fun r_63 S_64 H locs hp hG => ?_)
                obtain ⟨rfl, rfl⟩ := hp
                have hG : mW X mo ad (mNo S 2) s H locs := hG
                exact m_iret hx hb hr hlocks hG (by first | (exfalso; omega) | exact (hX.noR 2 (by unfold opSays; (repeat (first | rw [if_pos (by omega)] | rw [if_neg (by omega)])); all_goals (try (simp only [Int.toNat_natCast, hsvv])); all_goals ((repeat (first | rw [if_pos (by omega)] | rw [if_neg (by omega)])) <;> rfl)))) ⟨Nat.le_of_ble_eq_true rfl, Nat.le_of_ble_eq_true rfl⟩ dX4_says_64
    · refine lv_aload_n hx hb dX4_says_20 rfl (lv_at hl 0 rfl) ?_
      refine lv_iconst (v := zI (-1)) hx hb dX4_says_21 (by decide +kernel) ?_
      refine g_topz (y := -((1 : Nat) : Int)) (by decide) ?_
      refine m_ci (va_runV (As := [.int (zI (-((1 : Nat) : Int)))]) (rest := []) ⟨hx, hb, hml, hown, hts⟩ (metX4_no 1 (by decide)) (cwV 1 hts (lw_V q3427 q3429 qs43 q102 q3430) rfl rfl rfl (by decide +kernel) ⟨Nat.le_of_ble_eq_true rfl, Nat.le_of_ble_eq_true rfl⟩) (m_preV hG) rfl rfl hl.1 rfl (lv_room (Nat.le_of_ble_eq_true rfl)) dX4_says_22 ⟨Nat.le_of_ble_eq_true rfl, Nat.le_of_ble_eq_true rfl⟩) hG (fun r_65 S_66 H locs hp hG => ?_)
      obtain ⟨rfl, rfl⟩ := hp
      have hG : mW X mo ad (mNo S 1) s H locs := hG
      exact m_iret hx hb hr hlocks hG (by first | (exfalso; omega) | exact (hX.noR 1 (by unfold opSays; all_goals ((repeat (first | rw [if_pos (by omega)] | rw [if_neg (by omega)])) <;> rfl)))) ⟨Nat.le_of_ble_eq_true rfl, Nat.le_of_ble_eq_true rfl⟩ dX4_says_25

