set_option maxRecDepth 100000
theorem goesK_4 {cf : Nat → Option Nat} {nb a p q x y : Nat} (h : fSpan cf p (q - p + 1) = some (x, y)) (g : a * (q - p + 1) ≤ 10 * fCnt cf p (q - p + 1)) : goesK cf nb 4 a p q = some (x, y) := by
  unfold goesK; rw [if_neg (by decide), if_neg (by decide), if_neg (by decide), h]; show (if (4 : Nat) = 4 then _ else _) = _; rw [if_pos rfl, if_pos g]
theorem goesK_4n {cf : Nat → Option Nat} {nb a p q : Nat} (g : ¬ a * (q - p + 1) ≤ 10 * fCnt cf p (q - p + 1)) : goesK cf nb 4 a p q = none := by
  unfold goesK; rw [if_neg (by decide), if_neg (by decide), if_neg (by decide)]
  cases h : fSpan cf p (q - p + 1) with
  | none => rfl
  | some z => show (if (4 : Nat) = 4 then _ else _) = _; rw [if_pos rfl, if_neg g]
theorem goesK_2 {cf : Nat → Option Nat} {nb a p q x y : Nat} (h : fSpan cf p (q - p + 1) = some (x, y)) : goesK cf nb 2 a p q = if fCnt cf p (q - p + 1) = q - p + 1 ∧ y - x + 1 ≤ q - p + 1 then some (x, y) else none := by
  unfold goesK; rw [if_neg (by decide), if_neg (by decide), if_neg (by decide), h]; rfl
theorem goesK_5 {cf : Nat → Option Nat} {nb a p q x y : Nat} (h : fSpan cf p (q - p + 1) = some (x, y)) : goesK cf nb 5 a p q = if fCnt cf p (q - p + 1) = q - p + 1 ∧ y - x + 1 ≤ q - p + 1 + a then some (x, y) else none := by
  unfold goesK; rw [if_neg (by decide), if_neg (by decide), if_neg (by decide), h]; rfl
theorem goesK_n {cf : Nat → Option Nat} {nb a p q kd : Nat} (hk : kd = 2 ∨ kd = 5) (g : fCnt cf p (q - p + 1) ≠ q - p + 1) : goesK cf nb kd a p q = none := by
  cases h : fSpan cf p (q - p + 1) with
  | none => exact goesK_i (by omega) (by omega) (by omega) h
  | some z =>
    obtain ⟨x, y⟩ := z
    rcases hk with rfl | rfl
    · rw [goesK_2 h, if_neg (fun q => g q.1)]
    · rw [goesK_5 h, if_neg (fun q => g q.1)]
set_option maxHeartbeats 4000000 in
theorem metX20_follows {l : Launch} {X : gX} {F : gF} {V : gV} {Z : va_W} {rm sp mt r pp qq : Nat} {ta tb : Tx} (hm : isMatch X F mt r ta tb) (h24 : ta.length ≤ 24 ∧ tb.length ≤ 24) (hpq : pp ≤ qq ∧ qq < ta.length) {k9 : Nat} {v0 v2 v3 v4 v5 : Value} (hrm : F.1 rm = some (oB 18 [v0, .int (zI (k9 : Int)), v2, v3, v4, v5])) (hk9 : k9 ≤ 9) : Met l yX20_follows (ws_ yX20_follows cX20_follows 3 (some FieldType.boolean)) ({ frames := 2, cells := 0, slots := 0, locals := 47 }) (gP X F V ((sp, oB 22 [.int (zI (pp : Int)), .int (zI (qq : Int))]) :: Z) [.ref rm, .ref sp, .ref mt]) (gQi X (fun u G U ws => F = G ∧ V = U ∧ ((goesK (mPlace ta tb r) tb.length 4 k9 pp qq = none ∧ u = zI 0 ∧ ∃ z1 z2 : Int, ((sp, oB 22 [.int (zI z1), .int (zI z2)]) :: Z) = ws) ∨ (∃ x y : Nat, goesK (mPlace ta tb r) tb.length 4 k9 pp qq = some (x, y) ∧ u = zI 1 ∧ ((sp, oB 22 [.int (zI (x : Int)), .int (zI (y : Int))]) :: Z) = ws)))) 0 0 (gA X) := by
  refine Met.g (by decide) (Nat.le_of_ble_eq_true rfl) ?_
  intro p e s m below meth c ls hx hb hr hts hown hlocks hml hin hG hl
  have hl : lv_has ls 3 [(0, .ref rm), (1, .ref sp), (2, .ref mt)] := hl
  have hmZ := hm
  obtain ⟨pl, fp, w5, w6, w7, w8, hm1, hm2, hm3⟩ := hmZ
  have hcn := (fL_cases (cf := mPlace ta tb r) (N := tb.length) (fun i x h => (mPlace_lt h).2) pp (qq - pp + 1)).1
  refine lv_bipush (v := zI 10) hx hb dX20_follows_0 (by decide +kernel) ?_
  refine lv_aload_n hx hb dX20_follows_2 rfl (lv_at hl 2 rfl) ?_
  refine lv_aload_n hx hb dX20_follows_3 rfl (lv_at hl 1 rfl) ?_
  refine g_get (ci := 22) hx hb hts in_X24 hown hG (hG.at 0 rfl) rfl 0 (Nat.le_of_ble_eq_true rfl) (hts _ q2295) (fun _ h9 => h9) rfl dX20_follows_4 ?_
  refine lv_aload_n hx hb dX20_follows_7 rfl (lv_at hl 1 rfl) ?_
  refine g_get (ci := 22) hx hb hts in_X24 hown hG (hG.at 0 rfl) rfl 1 (Nat.le_of_ble_eq_true rfl) (hts _ q2303) (fun _ h9 => h9) rfl dX20_follows_8 ?_
  refine g_ci (va_runV (As := [.int (zI (pp : Int)), .int (zI (qq : Int))]) (rest := [.int (zI 10)]) ⟨hx, hb, hml, hown, hts⟩ (metX15_placed (pp := pp) (qq := qq) hm h24 hpq) (cwV 2 hts (lw_V q2431 q2402 q2403 q141 q2404) rfl rfl rfl (by decide +kernel) ⟨Nat.le_of_ble_eq_true rfl, Nat.le_of_ble_eq_true rfl⟩) (g_preV hG (g_recv hG (hG.fz hm1) (ci := 13) rfl)) rfl rfl hl.1 rfl (lv_room (Nat.le_of_ble_eq_true rfl)) dX20_follows_11 ⟨Nat.le_of_ble_eq_true rfl, Nat.le_of_ble_eq_true rfl⟩) hG (fun r_1 F_2 V_3 ws_ H locs hp hG => ?_)
  obtain ⟨rfl, rfl, rfl, rfl⟩ := hp
  have hG : gW X F V ((sp, oB 22 [.int (zI (pp : Int)), .int (zI (qq : Int))]) :: Z) s H locs := hG
  refine g_imul hx hb dX20_follows_14 ?_
  refine lv_aload_n hx hb dX20_follows_15 rfl (lv_at hl 0 rfl) ?_
  refine g_get (ci := 18) hx hb hts in_X20 hown hG (hG.fz hrm) rfl 1 (Nat.le_of_ble_eq_true rfl) (hts _ q2070) (u_same (hts _ q2071)) rfl dX20_follows_16 ?_
  refine lv_aload_n hx hb dX20_follows_19 rfl (lv_at hl 1 rfl) ?_
  refine g_ci (va_runV (As := []) (rest := [.int (zI (k9 : Int)), .int (zI (10 * (fCnt (mPlace ta tb r) pp (qq - pp + 1) : Int)))]) ⟨hx, hb, hml, hown, hts⟩ (metX24_length) (cwV 0 hts (lw_V q2432 q2387 q2388 q153 q2389) rfl rfl rfl (by decide +kernel) ⟨Nat.le_of_ble_eq_true rfl, Nat.le_of_ble_eq_true rfl⟩) (g_preV hG (g_recv hG (hG.at 0 rfl) (ci := 22) rfl)) rfl rfl hl.1 rfl (lv_room (Nat.le_of_ble_eq_true rfl)) dX20_follows_20 ⟨Nat.le_of_ble_eq_true rfl, Nat.le_of_ble_eq_true rfl⟩) hG (fun r_4 F_5 V_6 ws_ H locs hp hG => ?_)
  obtain ⟨rfl, rfl, rfl, rfl⟩ := hp
  have hG : gW X F V ((sp, oB 22 [.int (zI (pp : Int)), .int (zI (qq : Int))]) :: Z) s H locs := hG
  refine g_imul hx hb dX20_follows_23 ?_
  have hmul : (k9 : Int) * ((qq : Int) - (pp : Int) + 1) = ((k9 * (qq - pp + 1) : Nat) : Int) := by rw [Int.natCast_mul]; congr 1; omega
  have hml9 : k9 * (qq - pp + 1) ≤ 9 * 24 := Nat.mul_le_mul hk9 (by omega)
  refine g_topz (y := ((k9 * (qq - pp + 1) : Nat) : Int)) hmul ?_
  refine g_clt (tgt := 40) hx hb dX20_follows_24 (by decide) (by omega) (fun h1 => ?_) (fun h1 => ?_)
  · refine lv_iconst (v := zI 0) hx hb dX20_follows_40 (by decide +kernel) ?_
    exact g_zret hx hb hr hlocks rfl hG (⟨rfl, rfl, Or.inl ⟨goesK_4n (by omega), rfl, _, _, rfl⟩⟩) ⟨Nat.le_of_ble_eq_true rfl, Nat.le_of_ble_eq_true rfl⟩ dX20_follows_41
  · refine lv_aload_n hx hb dX20_follows_27 rfl (lv_at hl 0 rfl) ?_
    refine lv_aload_n hx hb dX20_follows_28 rfl (lv_at hl 1 rfl) ?_
    refine lv_aload_n hx hb dX20_follows_29 rfl (lv_at hl 2 rfl) ?_
    refine g_ci (va_runSU (C := "LineRemarks$Loose") (g_cls hG (ci := 18) rfl) (As := [.ref sp, .ref mt]) (rest := []) ⟨hx, hb, hml, hown, hts⟩ (metX16_follows (pp := pp) (qq := qq) hm h24 hpq) (va_cwSU 2 hts (lw_SU q2433 q2396 q2152 q2394 q145 q2406) rfl rfl rfl (by decide +kernel) ⟨Nat.le_of_ble_eq_true rfl, Nat.le_of_ble_eq_true rfl⟩) (g_preV hG (g_recv hG (hG.fz hrm) (ci := 18) rfl)) rfl rfl hl.1 rfl (lv_room (Nat.le_of_ble_eq_true rfl)) dX20_follows_30 ⟨Nat.le_of_ble_eq_true rfl, Nat.le_of_ble_eq_true rfl⟩) hG (fun r_7 F_8 V_9 ws_ H locs hp hG => ?_)
    rcases hp with ⟨rfl, rfl, ⟨hf, rfl, rfl⟩ | ⟨x, y, hf, rfl, rfl⟩⟩
    · have hG : gW X F V ((sp, oB 22 [.int (zI (pp : Int)), .int (zI (qq : Int))]) :: Z) s H locs := hG
      refine g_eq (tgt := 40) hx hb dX20_follows_33 (by decide) (by decide) (fun h2 => ?_) (fun h2 => ?_)
      · refine lv_iconst (v := zI 0) hx hb dX20_follows_40 (by decide +kernel) ?_
        exact g_zret hx hb hr hlocks rfl hG (⟨rfl, rfl, Or.inl ⟨goesK_i (by decide) (by decide) (by decide) hf, rfl, _, _, rfl⟩⟩) ⟨Nat.le_of_ble_eq_true rfl, Nat.le_of_ble_eq_true rfl⟩ dX20_follows_41
      · exfalso; omega
    · have hG : gW X F V ((sp, oB 22 [.int (zI (x : Int)), .int (zI (y : Int))]) :: Z) s H locs := hG
      refine g_eq (tgt := 40) hx hb dX20_follows_33 (by decide) (by decide) (fun h2 => ?_) (fun h2 => ?_)
      · exfalso; omega
      · refine lv_iconst (v := zI 1) hx hb dX20_follows_36 (by decide +kernel) ?_
        refine lv_goto (tgt := 41) hx hb dX20_follows_37 (by decide) ?_
        exact g_zret hx hb hr hlocks rfl hG (⟨rfl, rfl, Or.inr ⟨x, y, goesK_4 hf (by omega), rfl, rfl⟩⟩) ⟨Nat.le_of_ble_eq_true rfl, Nat.le_of_ble_eq_true rfl⟩ dX20_follows_41

set_option maxHeartbeats 4000000 in
theorem metX18_slack {l : Launch} {X : gX} {F : gF} {V : gV} {Z : va_W} {rm : Nat} : Met l yX18_slack (ws_ yX18_slack cX18_slack 1 (some FieldType.int)) ({ frames := 0, cells := 0, slots := 0, locals := 0 }) (gP X F V (Z) [.ref rm]) (gQi X (fun u G U ws => u = zI 0 ∧ F = G ∧ V = U ∧ Z = ws)) 0 0 (gA X) := by
  refine Met.g (by decide) (Nat.le_of_ble_eq_true rfl) ?_
  intro p e s m below meth c ls hx hb hr hts hown hlocks hml hin hG hl
  have hl : lv_has ls 1 [(0, .ref rm)] := hl
  refine lv_iconst (v := zI 0) hx hb dX18_slack_0 (by decide +kernel) ?_
  exact g_iret hx hb hr hlocks hG (⟨rfl, rfl, rfl, rfl⟩) ⟨Nat.le_of_ble_eq_true rfl, Nat.le_of_ble_eq_true rfl⟩ dX18_slack_1

set_option maxHeartbeats 4000000 in
theorem metX21_slack {l : Launch} {X : gX} {F : gF} {V : gV} {Z : va_W} {rm : Nat} {k9 : Nat} {v0 v2 v3 v4 v5 : Value} (hrm : F.1 rm = some (oB 19 [v0, .int (zI (k9 : Int)), v2, v3, v4, v5])) (hk9 : k9 ≤ 9) : Met l yX21_slack (ws_ yX21_slack cX21_slack 1 (some FieldType.int)) ({ frames := 1, cells := 0, slots := 0, locals := 20 }) (gP X F V (Z) [.ref rm]) (gQi X (fun u G U ws => u = zI (k9 : Int) ∧ F = G ∧ V = U ∧ Z = ws)) 0 0 (gA X) := by
  refine Met.g (by decide) (Nat.le_of_ble_eq_true rfl) ?_
  intro p e s m below meth c ls hx hb hr hts hown hlocks hml hin hG hl
  have hl : lv_has ls 1 [(0, .ref rm)] := hl
  refine lv_aload_n hx hb dX21_slack_0 rfl (lv_at hl 0 rfl) ?_
  refine g_ci (va_runSU (C := "LineRemarks$Wall") (g_cls hG (ci := 19) rfl) (As := []) (rest := []) ⟨hx, hb, hml, hown, hts⟩ (metX18_slack) (va_cwSU 0 hts (lw_SU q2417 q2413 q2165 q2411 q147 q2418) rfl rfl rfl (by decide +kernel) ⟨Nat.le_of_ble_eq_true rfl, Nat.le_of_ble_eq_true rfl⟩) (g_preV hG (g_recv hG (hG.fz hrm) (ci := 19) rfl)) rfl rfl hl.1 rfl (lv_room (Nat.le_of_ble_eq_true rfl)) dX21_slack_1 ⟨Nat.le_of_ble_eq_true rfl, Nat.le_of_ble_eq_true rfl⟩) hG (fun r_1 F_2 V_3 ws_ H locs hp hG => ?_)
  obtain ⟨rfl, rfl, rfl, rfl⟩ := hp
  have hG : gW X F V (Z) s H locs := hG
  refine lv_aload_n hx hb dX21_slack_4 rfl (lv_at hl 0 rfl) ?_
  refine g_get (ci := 19) hx hb hts in_X21 hown hG (hG.fz hrm) rfl 1 (Nat.le_of_ble_eq_true rfl) (hts _ q2068) (u_same (hts _ q2069)) rfl dX21_slack_5 ?_
  refine g_iadd hx hb dX21_slack_8 ?_
  exact g_iret hx hb hr hlocks hG (⟨congrArg zI (by omega), rfl, rfl, rfl⟩) ⟨Nat.le_of_ble_eq_true rfl, Nat.le_of_ble_eq_true rfl⟩ dX21_slack_9

set_option maxHeartbeats 4000000 in
theorem metX18_follows_2 {l : Launch} {X : gX} {F : gF} {V : gV} {Z : va_W} {rm sp mt r pp qq : Nat} {ta tb : Tx} (hm : isMatch X F mt r ta tb) (h24 : ta.length ≤ 24 ∧ tb.length ≤ 24) (hpq : pp ≤ qq ∧ qq < ta.length) {k9 : Nat} {v0 v2 v3 v4 v5 : Value} (hrm : F.1 rm = some (oB 16 [v0, .int (zI (k9 : Int)), v2, v3, v4, v5])) (hk9 : k9 ≤ 9) : Met l yX18_follows (ws_ yX18_follows cX18_follows 5 (some FieldType.boolean)) ({ frames := 2, cells := 0, slots := 0, locals := 47 }) (gP X F V ((sp, oB 22 [.int (zI (pp : Int)), .int (zI (qq : Int))]) :: Z) [.ref rm, .ref sp, .ref mt]) (gQi X (fun u G U ws => F = G ∧ V = U ∧ ((goesK (mPlace ta tb r) tb.length 2 k9 pp qq = none ∧ u = zI 0 ∧ ∃ z1 z2 : Int, ((sp, oB 22 [.int (zI z1), .int (zI z2)]) :: Z) = ws) ∨ (∃ x y : Nat, goesK (mPlace ta tb r) tb.length 2 k9 pp qq = some (x, y) ∧ u = zI 1 ∧ ((sp, oB 22 [.int (zI (x : Int)), .int (zI (y : Int))]) :: Z) = ws)))) 0 0 (gA X) := by
  refine Met.g (by decide) (Nat.le_of_ble_eq_true rfl) ?_
  intro p e s m below meth c ls hx hb hr hts hown hlocks hml hin hG hl
  have hl : lv_has ls 5 [(0, .ref rm), (1, .ref sp), (2, .ref mt)] := hl
  have hmZ := hm
  obtain ⟨pl, fp, w5, w6, w7, w8, hm1, hm2, hm3⟩ := hmZ
  have hcn := (fL_cases (cf := mPlace ta tb r) (N := tb.length) (fun i x h => (mPlace_lt h).2) pp (qq - pp + 1)).1
  refine lv_aload_n hx hb dX18_follows_0 rfl (lv_at hl 1 rfl) ?_
  refine g_ci (va_runV (As := []) (rest := []) ⟨hx, hb, hml, hown, hts⟩ (metX24_length) (cwV 0 hts (lw_V q2400 q2387 q2388 q153 q2389) rfl rfl rfl (by decide +kernel) ⟨Nat.le_of_ble_eq_true rfl, Nat.le_of_ble_eq_true rfl⟩) (g_preV hG (g_recv hG (hG.at 0 rfl) (ci := 22) rfl)) rfl rfl hl.1 rfl (lv_room (Nat.le_of_ble_eq_true rfl)) dX18_follows_1 ⟨Nat.le_of_ble_eq_true rfl, Nat.le_of_ble_eq_true rfl⟩) hG (fun r_1 F_2 V_3 ws_ H locs hp hG => ?_)
  obtain ⟨rfl, rfl, rfl, rfl⟩ := hp
  have hG : gW X F V ((sp, oB 22 [.int (zI (pp : Int)), .int (zI (qq : Int))]) :: Z) s H locs := hG
  refine lv_istore_n (lv' := [(3, .int (zI ((qq : Int) - (pp : Int) + 1))), (0, .ref rm), (1, .ref sp), (2, .ref mt)]) hx hb dX18_follows_4 rfl hl (by decide) rfl (fun ls hl => ?_)
  refine lv_aload_n hx hb dX18_follows_5 rfl (lv_at hl 3 rfl) ?_
  refine lv_aload_n hx hb dX18_follows_6 rfl (lv_at hl 2 rfl) ?_
  refine g_get (ci := 22) hx hb hts in_X24 hown hG (hG.at 0 rfl) rfl 0 (Nat.le_of_ble_eq_true rfl) (hts _ q2299) (fun _ h9 => h9) rfl dX18_follows_7 ?_
  refine lv_aload_n hx hb dX18_follows_10 rfl (lv_at hl 2 rfl) ?_
  refine g_get (ci := 22) hx hb hts in_X24 hown hG (hG.at 0 rfl) rfl 1 (Nat.le_of_ble_eq_true rfl) (hts _ q2305) (fun _ h9 => h9) rfl dX18_follows_11 ?_
  refine g_ci (va_runV (As := [.int (zI (pp : Int)), .int (zI (qq : Int))]) (rest := []) ⟨hx, hb, hml, hown, hts⟩ (metX15_placed (pp := pp) (qq := qq) hm h24 hpq) (cwV 2 hts (lw_V q2401 q2402 q2403 q141 q2404) rfl rfl rfl (by decide +kernel) ⟨Nat.le_of_ble_eq_true rfl, Nat.le_of_ble_eq_true rfl⟩) (g_preV hG (g_recv hG (hG.fz hm1) (ci := 13) rfl)) rfl rfl hl.1 rfl (lv_room (Nat.le_of_ble_eq_true rfl)) dX18_follows_14 ⟨Nat.le_of_ble_eq_true rfl, Nat.le_of_ble_eq_true rfl⟩) hG (fun r_4 F_5 V_6 ws_ H locs hp hG => ?_)
  obtain ⟨rfl, rfl, rfl, rfl⟩ := hp
  have hG : gW X F V ((sp, oB 22 [.int (zI (pp : Int)), .int (zI (qq : Int))]) :: Z) s H locs := hG
  refine lv_iload_n hx hb dX18_follows_17 rfl (lv_at hl 0 rfl) ?_
  refine g_cne (tgt := 25) hx hb dX18_follows_18 (by decide) (by omega) (fun h1 => ?_) (fun h1 => ?_)
  · refine lv_iconst (v := zI 0) hx hb dX18_follows_25 (by decide +kernel) ?_
    refine lv_istore (lv' := [(4, .int (zI 0)), (3, .int (zI ((qq : Int) - (pp : Int) + 1))), (0, .ref rm), (1, .ref sp), (2, .ref mt)]) hx hb dX18_follows_26 hl (by decide) rfl (fun ls hl => ?_)
    refine lv_iload hx hb dX18_follows_28 (lv_at hl 0 rfl) ?_
    refine g_eq (tgt := 59) hx hb dX18_follows_30 (by decide) (by decide) (fun h2 => ?_) (fun h2 => ?_)
    · refine lv_iconst (v := zI 0) hx hb dX18_follows_59 (by decide +kernel) ?_
      exact g_zret hx hb hr hlocks rfl hG (⟨rfl, rfl, Or.inl ⟨goesK_n (by decide) (by omega), rfl, _, _, rfl⟩⟩) ⟨Nat.le_of_ble_eq_true rfl, Nat.le_of_ble_eq_true rfl⟩ dX18_follows_60
    · exfalso; omega
  · refine lv_iconst (v := zI 1) hx hb dX18_follows_21 (by decide +kernel) ?_
    refine lv_goto (tgt := 26) hx hb dX18_follows_22 (by decide) ?_
    refine lv_istore (lv' := [(4, .int (zI 1)), (3, .int (zI ((qq : Int) - (pp : Int) + 1))), (0, .ref rm), (1, .ref sp), (2, .ref mt)]) hx hb dX18_follows_26 hl (by decide) rfl (fun ls hl => ?_)
    refine lv_iload hx hb dX18_follows_28 (lv_at hl 0 rfl) ?_
    refine g_eq (tgt := 59) hx hb dX18_follows_30 (by decide) (by decide) (fun h2 => ?_) (fun h2 => ?_)
    · exfalso; omega
    · refine lv_aload_n hx hb dX18_follows_33 rfl (lv_at hl 2 rfl) ?_
      refine lv_aload_n hx hb dX18_follows_34 rfl (lv_at hl 3 rfl) ?_
      refine lv_aload_n hx hb dX18_follows_35 rfl (lv_at hl 4 rfl) ?_
      refine g_ci (va_runSU (C := "LineRemarks$Block") (g_cls hG (ci := 16) rfl) (As := [.ref sp, .ref mt]) (rest := []) ⟨hx, hb, hml, hown, hts⟩ (metX16_follows (pp := pp) (qq := qq) hm h24 hpq) (va_cwSU 2 hts (lw_SU q2405 q2396 q2126 q2394 q145 q2406) rfl rfl rfl (by decide +kernel) ⟨Nat.le_of_ble_eq_true rfl, Nat.le_of_ble_eq_true rfl⟩) (g_preV hG (g_recv hG (hG.fz hrm) (ci := 16) rfl)) rfl rfl hl.1 rfl (lv_room (Nat.le_of_ble_eq_true rfl)) dX18_follows_36 ⟨Nat.le_of_ble_eq_true rfl, Nat.le_of_ble_eq_true rfl⟩) hG (fun r_7 F_8 V_9 ws_ H locs hp hG => ?_)
      rcases hp with ⟨rfl, rfl, ⟨hf, rfl, rfl⟩ | ⟨x, y, hf, rfl, rfl⟩⟩
      · have hG : gW X F V ((sp, oB 22 [.int (zI (pp : Int)), .int (zI (qq : Int))]) :: Z) s H locs := hG
        refine g_eq (tgt := 59) hx hb dX18_follows_39 (by decide) (by decide) (fun h3 => ?_) (fun h3 => ?_)
        · refine lv_iconst (v := zI 0) hx hb dX18_follows_59 (by decide +kernel) ?_
          exact g_zret hx hb hr hlocks rfl hG (⟨rfl, rfl, Or.inl ⟨goesK_i (by decide) (by decide) (by decide) hf, rfl, _, _, rfl⟩⟩) ⟨Nat.le_of_ble_eq_true rfl, Nat.le_of_ble_eq_true rfl⟩ dX18_follows_60
        · exfalso; omega
      · have hG : gW X F V ((sp, oB 22 [.int (zI (x : Int)), .int (zI (y : Int))]) :: Z) s H locs := hG
        refine g_eq (tgt := 59) hx hb dX18_follows_39 (by decide) (by decide) (fun h3 => ?_) (fun h3 => ?_)
        · exfalso; omega
        · have hxy : x ≤ y ∧ y < tb.length := by
            rcases (fL_cases (cf := mPlace ta tb r) (N := tb.length) (fun i x h => (mPlace_lt h).2) pp (qq - pp + 1)).2 with ⟨g1, -, -⟩ | ⟨y0, z0, g1, g2, -, g4, g5⟩
            · rw [fSpan_n g1] at hf; cases hf
            · rw [fSpan_s g1 g2] at hf; cases hf; exact ⟨g4, g5⟩
          refine lv_aload_n hx hb dX18_follows_42 rfl (lv_at hl 3 rfl) ?_
          refine g_ci (va_runV (As := []) (rest := []) ⟨hx, hb, hml, hown, hts⟩ (metX24_length) (cwV 0 hts (lw_V q2400 q2387 q2388 q153 q2389) rfl rfl rfl (by decide +kernel) ⟨Nat.le_of_ble_eq_true rfl, Nat.le_of_ble_eq_true rfl⟩) (g_preV hG (g_recv hG (hG.at 0 rfl) (ci := 22) rfl)) rfl rfl hl.1 rfl (lv_room (Nat.le_of_ble_eq_true rfl)) dX18_follows_43 ⟨Nat.le_of_ble_eq_true rfl, Nat.le_of_ble_eq_true rfl⟩) hG (fun r_10 F_11 V_12 ws_ H locs hp hG => ?_)
          obtain ⟨rfl, rfl, rfl, rfl⟩ := hp
          have hG : gW X F V ((sp, oB 22 [.int (zI (x : Int)), .int (zI (y : Int))]) :: Z) s H locs := hG
          refine lv_iload_n hx hb dX18_follows_46 rfl (lv_at hl 1 rfl) ?_
          refine lv_aload_n hx hb dX18_follows_47 rfl (lv_at hl 2 rfl) ?_
          refine g_ci (va_runV (As := []) (rest := [.int (zI ((qq : Int) - (pp : Int) + 1)), .int (zI ((y : Int) - (x : Int) + 1))]) ⟨hx, hb, hml, hown, hts⟩ (metX18_slack) (cwV 0 hts (lw_V q2410 q2411 q2412 q147 q2418) rfl rfl rfl (by decide +kernel) ⟨Nat.le_of_ble_eq_true rfl, Nat.le_of_ble_eq_true rfl⟩) (g_preV hG (g_recv hG (hG.fz hrm) (ci := 16) rfl)) rfl rfl hl.1 rfl (lv_room (Nat.le_of_ble_eq_true rfl)) dX18_follows_48 ⟨Nat.le_of_ble_eq_true rfl, Nat.le_of_ble_eq_true rfl⟩) hG (fun r_13 F_14 V_15 ws_ H locs hp hG => ?_)
          obtain ⟨rfl, rfl, rfl, rfl⟩ := hp
          have hG : gW X F V ((sp, oB 22 [.int (zI (x : Int)), .int (zI (y : Int))]) :: Z) s H locs := hG
          refine g_iadd hx hb dX18_follows_51 ?_
          refine g_cgt (tgt := 59) hx hb dX18_follows_52 (by decide) (by omega) (fun h4 => ?_) (fun h4 => ?_)
          · refine lv_iconst (v := zI 0) hx hb dX18_follows_59 (by decide +kernel) ?_
            exact g_zret hx hb hr hlocks rfl hG (⟨rfl, rfl, Or.inl ⟨by rw [goesK_2 hf, if_neg (by omega)], rfl, _, _, rfl⟩⟩) ⟨Nat.le_of_ble_eq_true rfl, Nat.le_of_ble_eq_true rfl⟩ dX18_follows_60
          · refine lv_iconst (v := zI 1) hx hb dX18_follows_55 (by decide +kernel) ?_
            refine lv_goto (tgt := 60) hx hb dX18_follows_56 (by decide) ?_
            exact g_zret hx hb hr hlocks rfl hG (⟨rfl, rfl, Or.inr ⟨x, y, by rw [goesK_2 hf, if_pos (by omega)], rfl, rfl⟩⟩) ⟨Nat.le_of_ble_eq_true rfl, Nat.le_of_ble_eq_true rfl⟩ dX18_follows_60

set_option maxHeartbeats 4000000 in
theorem metX18_follows_5 {l : Launch} {X : gX} {F : gF} {V : gV} {Z : va_W} {rm sp mt r pp qq : Nat} {ta tb : Tx} (hm : isMatch X F mt r ta tb) (h24 : ta.length ≤ 24 ∧ tb.length ≤ 24) (hpq : pp ≤ qq ∧ qq < ta.length) {k9 : Nat} {v0 v2 v3 v4 v5 : Value} (hrm : F.1 rm = some (oB 19 [v0, .int (zI (k9 : Int)), v2, v3, v4, v5])) (hk9 : k9 ≤ 9) : Met l yX18_follows (ws_ yX18_follows cX18_follows 5 (some FieldType.boolean)) ({ frames := 2, cells := 0, slots := 0, locals := 47 }) (gP X F V ((sp, oB 22 [.int (zI (pp : Int)), .int (zI (qq : Int))]) :: Z) [.ref rm, .ref sp, .ref mt]) (gQi X (fun u G U ws => F = G ∧ V = U ∧ ((goesK (mPlace ta tb r) tb.length 5 k9 pp qq = none ∧ u = zI 0 ∧ ∃ z1 z2 : Int, ((sp, oB 22 [.int (zI z1), .int (zI z2)]) :: Z) = ws) ∨ (∃ x y : Nat, goesK (mPlace ta tb r) tb.length 5 k9 pp qq = some (x, y) ∧ u = zI 1 ∧ ((sp, oB 22 [.int (zI (x : Int)), .int (zI (y : Int))]) :: Z) = ws)))) 0 0 (gA X) := by
  refine Met.g (by decide) (Nat.le_of_ble_eq_true rfl) ?_
  intro p e s m below meth c ls hx hb hr hts hown hlocks hml hin hG hl
  have hl : lv_has ls 5 [(0, .ref rm), (1, .ref sp), (2, .ref mt)] := hl
  have hmZ := hm
  obtain ⟨pl, fp, w5, w6, w7, w8, hm1, hm2, hm3⟩ := hmZ
  have hcn := (fL_cases (cf := mPlace ta tb r) (N := tb.length) (fun i x h => (mPlace_lt h).2) pp (qq - pp + 1)).1
  refine lv_aload_n hx hb dX18_follows_0 rfl (lv_at hl 1 rfl) ?_
  refine g_ci (va_runV (As := []) (rest := []) ⟨hx, hb, hml, hown, hts⟩ (metX24_length) (cwV 0 hts (lw_V q2400 q2387 q2388 q153 q2389) rfl rfl rfl (by decide +kernel) ⟨Nat.le_of_ble_eq_true rfl, Nat.le_of_ble_eq_true rfl⟩) (g_preV hG (g_recv hG (hG.at 0 rfl) (ci := 22) rfl)) rfl rfl hl.1 rfl (lv_room (Nat.le_of_ble_eq_true rfl)) dX18_follows_1 ⟨Nat.le_of_ble_eq_true rfl, Nat.le_of_ble_eq_true rfl⟩) hG (fun r_1 F_2 V_3 ws_ H locs hp hG => ?_)
  obtain ⟨rfl, rfl, rfl, rfl⟩ := hp
  have hG : gW X F V ((sp, oB 22 [.int (zI (pp : Int)), .int (zI (qq : Int))]) :: Z) s H locs := hG
  refine lv_istore_n (lv' := [(3, .int (zI ((qq : Int) - (pp : Int) + 1))), (0, .ref rm), (1, .ref sp), (2, .ref mt)]) hx hb dX18_follows_4 rfl hl (by decide) rfl (fun ls hl => ?_)
  refine lv_aload_n hx hb dX18_follows_5 rfl (lv_at hl 3 rfl) ?_
  refine lv_aload_n hx hb dX18_follows_6 rfl (lv_at hl 2 rfl) ?_
  refine g_get (ci := 22) hx hb hts in_X24 hown hG (hG.at 0 rfl) rfl 0 (Nat.le_of_ble_eq_true rfl) (hts _ q2299) (fun _ h9 => h9) rfl dX18_follows_7 ?_
  refine lv_aload_n hx hb dX18_follows_10 rfl (lv_at hl 2 rfl) ?_
  refine g_get (ci := 22) hx hb hts in_X24 hown hG (hG.at 0 rfl) rfl 1 (Nat.le_of_ble_eq_true rfl) (hts _ q2305) (fun _ h9 => h9) rfl dX18_follows_11 ?_
  refine g_ci (va_runV (As := [.int (zI (pp : Int)), .int (zI (qq : Int))]) (rest := []) ⟨hx, hb, hml, hown, hts⟩ (metX15_placed (pp := pp) (qq := qq) hm h24 hpq) (cwV 2 hts (lw_V q2401 q2402 q2403 q141 q2404) rfl rfl rfl (by decide +kernel) ⟨Nat.le_of_ble_eq_true rfl, Nat.le_of_ble_eq_true rfl⟩) (g_preV hG (g_recv hG (hG.fz hm1) (ci := 13) rfl)) rfl rfl hl.1 rfl (lv_room (Nat.le_of_ble_eq_true rfl)) dX18_follows_14 ⟨Nat.le_of_ble_eq_true rfl, Nat.le_of_ble_eq_true rfl⟩) hG (fun r_4 F_5 V_6 ws_ H locs hp hG => ?_)
  obtain ⟨rfl, rfl, rfl, rfl⟩ := hp
  have hG : gW X F V ((sp, oB 22 [.int (zI (pp : Int)), .int (zI (qq : Int))]) :: Z) s H locs := hG
  refine lv_iload_n hx hb dX18_follows_17 rfl (lv_at hl 0 rfl) ?_
  refine g_cne (tgt := 25) hx hb dX18_follows_18 (by decide) (by omega) (fun h1 => ?_) (fun h1 => ?_)
  · refine lv_iconst (v := zI 0) hx hb dX18_follows_25 (by decide +kernel) ?_
    refine lv_istore (lv' := [(4, .int (zI 0)), (3, .int (zI ((qq : Int) - (pp : Int) + 1))), (0, .ref rm), (1, .ref sp), (2, .ref mt)]) hx hb dX18_follows_26 hl (by decide) rfl (fun ls hl => ?_)
    refine lv_iload hx hb dX18_follows_28 (lv_at hl 0 rfl) ?_
    refine g_eq (tgt := 59) hx hb dX18_follows_30 (by decide) (by decide) (fun h2 => ?_) (fun h2 => ?_)
    · refine lv_iconst (v := zI 0) hx hb dX18_follows_59 (by decide +kernel) ?_
      exact g_zret hx hb hr hlocks rfl hG (⟨rfl, rfl, Or.inl ⟨goesK_n (by decide) (by omega), rfl, _, _, rfl⟩⟩) ⟨Nat.le_of_ble_eq_true rfl, Nat.le_of_ble_eq_true rfl⟩ dX18_follows_60
    · exfalso; omega
  · refine lv_iconst (v := zI 1) hx hb dX18_follows_21 (by decide +kernel) ?_
    refine lv_goto (tgt := 26) hx hb dX18_follows_22 (by decide) ?_
    refine lv_istore (lv' := [(4, .int (zI 1)), (3, .int (zI ((qq : Int) - (pp : Int) + 1))), (0, .ref rm), (1, .ref sp), (2, .ref mt)]) hx hb dX18_follows_26 hl (by decide) rfl (fun ls hl => ?_)
    refine lv_iload hx hb dX18_follows_28 (lv_at hl 0 rfl) ?_
    refine g_eq (tgt := 59) hx hb dX18_follows_30 (by decide) (by decide) (fun h2 => ?_) (fun h2 => ?_)
    · exfalso; omega
    · refine lv_aload_n hx hb dX18_follows_33 rfl (lv_at hl 2 rfl) ?_
      refine lv_aload_n hx hb dX18_follows_34 rfl (lv_at hl 3 rfl) ?_
      refine lv_aload_n hx hb dX18_follows_35 rfl (lv_at hl 4 rfl) ?_
      refine g_ci (va_runSU (C := "LineRemarks$Wall") (g_cls hG (ci := 19) rfl) (As := [.ref sp, .ref mt]) (rest := []) ⟨hx, hb, hml, hown, hts⟩ (metX16_follows (pp := pp) (qq := qq) hm h24 hpq) (va_cwSU 2 hts (lw_SU q2405 q2396 q2126 q2394 q145 q2406) rfl rfl rfl (by decide +kernel) ⟨Nat.le_of_ble_eq_true rfl, Nat.le_of_ble_eq_true rfl⟩) (g_preV hG (g_recv hG (hG.fz hrm) (ci := 19) rfl)) rfl rfl hl.1 rfl (lv_room (Nat.le_of_ble_eq_true rfl)) dX18_follows_36 ⟨Nat.le_of_ble_eq_true rfl, Nat.le_of_ble_eq_true rfl⟩) hG (fun r_7 F_8 V_9 ws_ H locs hp hG => ?_)
      rcases hp with ⟨rfl, rfl, ⟨hf, rfl, rfl⟩ | ⟨x, y, hf, rfl, rfl⟩⟩
      · have hG : gW X F V ((sp, oB 22 [.int (zI (pp : Int)), .int (zI (qq : Int))]) :: Z) s H locs := hG
        refine g_eq (tgt := 59) hx hb dX18_follows_39 (by decide) (by decide) (fun h3 => ?_) (fun h3 => ?_)
        · refine lv_iconst (v := zI 0) hx hb dX18_follows_59 (by decide +kernel) ?_
          exact g_zret hx hb hr hlocks rfl hG (⟨rfl, rfl, Or.inl ⟨goesK_i (by decide) (by decide) (by decide) hf, rfl, _, _, rfl⟩⟩) ⟨Nat.le_of_ble_eq_true rfl, Nat.le_of_ble_eq_true rfl⟩ dX18_follows_60
        · exfalso; omega
      · have hG : gW X F V ((sp, oB 22 [.int (zI (x : Int)), .int (zI (y : Int))]) :: Z) s H locs := hG
        refine g_eq (tgt := 59) hx hb dX18_follows_39 (by decide) (by decide) (fun h3 => ?_) (fun h3 => ?_)
        · exfalso; omega
        · have hxy : x ≤ y ∧ y < tb.length := by
            rcases (fL_cases (cf := mPlace ta tb r) (N := tb.length) (fun i x h => (mPlace_lt h).2) pp (qq - pp + 1)).2 with ⟨g1, -, -⟩ | ⟨y0, z0, g1, g2, -, g4, g5⟩
            · rw [fSpan_n g1] at hf; cases hf
            · rw [fSpan_s g1 g2] at hf; cases hf; exact ⟨g4, g5⟩
          refine lv_aload_n hx hb dX18_follows_42 rfl (lv_at hl 3 rfl) ?_
          refine g_ci (va_runV (As := []) (rest := []) ⟨hx, hb, hml, hown, hts⟩ (metX24_length) (cwV 0 hts (lw_V q2400 q2387 q2388 q153 q2389) rfl rfl rfl (by decide +kernel) ⟨Nat.le_of_ble_eq_true rfl, Nat.le_of_ble_eq_true rfl⟩) (g_preV hG (g_recv hG (hG.at 0 rfl) (ci := 22) rfl)) rfl rfl hl.1 rfl (lv_room (Nat.le_of_ble_eq_true rfl)) dX18_follows_43 ⟨Nat.le_of_ble_eq_true rfl, Nat.le_of_ble_eq_true rfl⟩) hG (fun r_10 F_11 V_12 ws_ H locs hp hG => ?_)
          obtain ⟨rfl, rfl, rfl, rfl⟩ := hp
          have hG : gW X F V ((sp, oB 22 [.int (zI (x : Int)), .int (zI (y : Int))]) :: Z) s H locs := hG
          refine lv_iload_n hx hb dX18_follows_46 rfl (lv_at hl 1 rfl) ?_
          refine lv_aload_n hx hb dX18_follows_47 rfl (lv_at hl 2 rfl) ?_
          refine g_ci (va_runU (C := "LineRemarks$Wall") (As := []) (rest := [.int (zI ((qq : Int) - (pp : Int) + 1)), .int (zI ((y : Int) - (x : Int) + 1))]) ⟨hx, hb, hml, hown, hts⟩ (metX21_slack hrm hk9) (va_cwO 0 hts (lw_O q2410 q2413 q2411 q2414 q2415 q150 q2416) rfl rfl rfl q2418 (by decide +kernel) ⟨Nat.le_of_ble_eq_true rfl, Nat.le_of_ble_eq_true rfl⟩) (g_preV hG (g_recv hG (hG.fz hrm) (ci := 19) rfl)) rfl rfl hl.1 rfl (lv_room (Nat.le_of_ble_eq_true rfl)) dX18_follows_48 ⟨Nat.le_of_ble_eq_true rfl, Nat.le_of_ble_eq_true rfl⟩) hG (fun r_13 F_14 V_15 ws_ H locs hp hG => ?_)
          obtain ⟨rfl, rfl, rfl, rfl⟩ := hp
          have hG : gW X F V ((sp, oB 22 [.int (zI (x : Int)), .int (zI (y : Int))]) :: Z) s H locs := hG
          refine g_iadd hx hb dX18_follows_51 ?_
          refine g_cgt (tgt := 59) hx hb dX18_follows_52 (by decide) (by omega) (fun h4 => ?_) (fun h4 => ?_)
          · refine lv_iconst (v := zI 0) hx hb dX18_follows_59 (by decide +kernel) ?_
            exact g_zret hx hb hr hlocks rfl hG (⟨rfl, rfl, Or.inl ⟨by rw [goesK_5 hf, if_neg (by omega)], rfl, _, _, rfl⟩⟩) ⟨Nat.le_of_ble_eq_true rfl, Nat.le_of_ble_eq_true rfl⟩ dX18_follows_60
          · refine lv_iconst (v := zI 1) hx hb dX18_follows_55 (by decide +kernel) ?_
            refine lv_goto (tgt := 60) hx hb dX18_follows_56 (by decide) ?_
            exact g_zret hx hb hr hlocks rfl hG (⟨rfl, rfl, Or.inr ⟨x, y, by rw [goesK_5 hf, if_pos (by omega)], rfl, rfl⟩⟩) ⟨Nat.le_of_ble_eq_true rfl, Nat.le_of_ble_eq_true rfl⟩ dX18_follows_60

set_option maxHeartbeats 4000000 in
theorem metX16_kind {l : Launch} {X : gX} {F : gF} {V : gV} {Z : va_W} {rm : Nat} : Met l yX16_kind (ws_ yX16_kind cX16_kind 1 (some FieldType.int)) ({ frames := 0, cells := 0, slots := 0, locals := 0 }) (gP X F V (Z) [.ref rm]) (gQi X (fun u G U ws => u = zI 0 ∧ F = G ∧ V = U ∧ Z = ws)) 0 0 (gA X) := by
  refine Met.g (by decide) (Nat.le_of_ble_eq_true rfl) ?_
  intro p e s m below meth c ls hx hb hr hts hown hlocks hml hin hG hl
  have hl : lv_has ls 1 [(0, .ref rm)] := hl
  refine lv_iconst (v := zI 0) hx hb dX16_kind_0 (by decide +kernel) ?_
  exact g_iret hx hb hr hlocks hG (⟨rfl, rfl, rfl, rfl⟩) ⟨Nat.le_of_ble_eq_true rfl, Nat.le_of_ble_eq_true rfl⟩ dX16_kind_1

set_option maxHeartbeats 4000000 in
theorem metX17_kind {l : Launch} {X : gX} {F : gF} {V : gV} {Z : va_W} {rm : Nat} : Met l yX17_kind (ws_ yX17_kind cX17_kind 1 (some FieldType.int)) ({ frames := 0, cells := 0, slots := 0, locals := 0 }) (gP X F V (Z) [.ref rm]) (gQi X (fun u G U ws => u = zI 1 ∧ F = G ∧ V = U ∧ Z = ws)) 0 0 (gA X) := by
  refine Met.g (by decide) (Nat.le_of_ble_eq_true rfl) ?_
  intro p e s m below meth c ls hx hb hr hts hown hlocks hml hin hG hl
  have hl : lv_has ls 1 [(0, .ref rm)] := hl
  refine lv_iconst (v := zI 1) hx hb dX17_kind_0 (by decide +kernel) ?_
  exact g_iret hx hb hr hlocks hG (⟨rfl, rfl, rfl, rfl⟩) ⟨Nat.le_of_ble_eq_true rfl, Nat.le_of_ble_eq_true rfl⟩ dX17_kind_1

set_option maxHeartbeats 4000000 in
theorem metX18_kind {l : Launch} {X : gX} {F : gF} {V : gV} {Z : va_W} {rm : Nat} : Met l yX18_kind (ws_ yX18_kind cX18_kind 1 (some FieldType.int)) ({ frames := 0, cells := 0, slots := 0, locals := 0 }) (gP X F V (Z) [.ref rm]) (gQi X (fun u G U ws => u = zI 2 ∧ F = G ∧ V = U ∧ Z = ws)) 0 0 (gA X) := by
  refine Met.g (by decide) (Nat.le_of_ble_eq_true rfl) ?_
  intro p e s m below meth c ls hx hb hr hts hown hlocks hml hin hG hl
  have hl : lv_has ls 1 [(0, .ref rm)] := hl
  refine lv_iconst (v := zI 2) hx hb dX18_kind_0 (by decide +kernel) ?_
  exact g_iret hx hb hr hlocks hG (⟨rfl, rfl, rfl, rfl⟩) ⟨Nat.le_of_ble_eq_true rfl, Nat.le_of_ble_eq_true rfl⟩ dX18_kind_1

set_option maxHeartbeats 4000000 in
theorem metX19_kind {l : Launch} {X : gX} {F : gF} {V : gV} {Z : va_W} {rm : Nat} : Met l yX19_kind (ws_ yX19_kind cX19_kind 1 (some FieldType.int)) ({ frames := 0, cells := 0, slots := 0, locals := 0 }) (gP X F V (Z) [.ref rm]) (gQi X (fun u G U ws => u = zI 3 ∧ F = G ∧ V = U ∧ Z = ws)) 0 0 (gA X) := by
  refine Met.g (by decide) (Nat.le_of_ble_eq_true rfl) ?_
  intro p e s m below meth c ls hx hb hr hts hown hlocks hml hin hG hl
  have hl : lv_has ls 1 [(0, .ref rm)] := hl
  refine lv_iconst (v := zI 3) hx hb dX19_kind_0 (by decide +kernel) ?_
  exact g_iret hx hb hr hlocks hG (⟨rfl, rfl, rfl, rfl⟩) ⟨Nat.le_of_ble_eq_true rfl, Nat.le_of_ble_eq_true rfl⟩ dX19_kind_1

set_option maxHeartbeats 4000000 in
theorem metX20_kind {l : Launch} {X : gX} {F : gF} {V : gV} {Z : va_W} {rm : Nat} : Met l yX20_kind (ws_ yX20_kind cX20_kind 1 (some FieldType.int)) ({ frames := 0, cells := 0, slots := 0, locals := 0 }) (gP X F V (Z) [.ref rm]) (gQi X (fun u G U ws => u = zI 4 ∧ F = G ∧ V = U ∧ Z = ws)) 0 0 (gA X) := by
  refine Met.g (by decide) (Nat.le_of_ble_eq_true rfl) ?_
  intro p e s m below meth c ls hx hb hr hts hown hlocks hml hin hG hl
  have hl : lv_has ls 1 [(0, .ref rm)] := hl
  refine lv_iconst (v := zI 4) hx hb dX20_kind_0 (by decide +kernel) ?_
  exact g_iret hx hb hr hlocks hG (⟨rfl, rfl, rfl, rfl⟩) ⟨Nat.le_of_ble_eq_true rfl, Nat.le_of_ble_eq_true rfl⟩ dX20_kind_1

set_option maxHeartbeats 4000000 in
theorem metX21_kind {l : Launch} {X : gX} {F : gF} {V : gV} {Z : va_W} {rm : Nat} : Met l yX21_kind (ws_ yX21_kind cX21_kind 1 (some FieldType.int)) ({ frames := 0, cells := 0, slots := 0, locals := 0 }) (gP X F V (Z) [.ref rm]) (gQi X (fun u G U ws => u = zI 5 ∧ F = G ∧ V = U ∧ Z = ws)) 0 0 (gA X) := by
  refine Met.g (by decide) (Nat.le_of_ble_eq_true rfl) ?_
  intro p e s m below meth c ls hx hb hr hts hown hlocks hml hin hG hl
  have hl : lv_has ls 1 [(0, .ref rm)] := hl
  refine lv_iconst (v := zI 5) hx hb dX21_kind_0 (by decide +kernel) ?_
  exact g_iret hx hb hr hlocks hG (⟨rfl, rfl, rfl, rfl⟩) ⟨Nat.le_of_ble_eq_true rfl, Nat.le_of_ble_eq_true rfl⟩ dX21_kind_1

set_option maxHeartbeats 4000000 in
theorem metX22_kind {l : Launch} {X : gX} {F : gF} {V : gV} {Z : va_W} {rm : Nat} : Met l yX22_kind (ws_ yX22_kind cX22_kind 1 (some FieldType.int)) ({ frames := 0, cells := 0, slots := 0, locals := 0 }) (gP X F V (Z) [.ref rm]) (gQi X (fun u G U ws => u = zI 6 ∧ F = G ∧ V = U ∧ Z = ws)) 0 0 (gA X) := by
  refine Met.g (by decide) (Nat.le_of_ble_eq_true rfl) ?_
  intro p e s m below meth c ls hx hb hr hts hown hlocks hml hin hG hl
  have hl : lv_has ls 1 [(0, .ref rm)] := hl
  refine lv_bipush (v := zI 6) hx hb dX22_kind_0 (by decide +kernel) ?_
  exact g_iret hx hb hr hlocks hG (⟨rfl, rfl, rfl, rfl⟩) ⟨Nat.le_of_ble_eq_true rfl, Nat.le_of_ble_eq_true rfl⟩ dX22_kind_2

