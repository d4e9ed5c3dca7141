set_option maxRecDepth 100000
theorem goesK_i {cf : Nat → Option Nat} {nb kd a p q : Nat} (h1 : kd ≠ 1) (h3 : kd ≠ 3) (h6 : kd ≠ 6) (h : fSpan cf p (q - p + 1) = none) : goesK cf nb kd a p q = none := by
  unfold goesK; rw [if_neg h1, if_neg h3, if_neg h6, h]
theorem upC_dn {cf : Nat → Option Nat} {i : Nat} (h : cf (i + 1) = none) : upC cf (i + 1) = upC cf i := by show (match cf (i + 1) with | some x => some x | none => upC cf i) = _; rw [h]
theorem upC_hit {cf : Nat → Option Nat} {i x : Nat} (h : cf i = some x) : upC cf i = some x := by
  cases i with
  | zero => exact h
  | succ i => show (match cf (i + 1) with | some x => some x | none => upC cf i) = _; rw [h]
set_option maxHeartbeats 4000000 in
theorem metX17_follows {l : Launch} {X : gX} {F : gF} {V : gV} {Z : va_W} {rm sp mt r pp qq : Nat} {ta tb : Tx} (hm : isMatch X F mt r ta tb) (h24 : ta.length ≤ 24 ∧ tb.length ≤ 24) (hpq : pp ≤ qq ∧ qq < ta.length) {ci : Nat} {qc : vw_C} {fs : List Value} (hrm : F.1 rm = some (oB ci fs)) (hci : gCL[ci]? = some qc) : Met l yX17_follows (ws_ yX17_follows cX17_follows 3 (some FieldType.boolean)) ({ frames := 2, cells := 0, slots := 0, locals := 47 }) (gP X F V ((sp, oB 22 [.int (zI (pp : Int)), .int (zI (qq : Int))]) :: Z) [.ref rm, .ref sp, .ref mt]) (gQi X (fun u G U ws => F = G ∧ V = U ∧ ((mPlace ta tb r pp = none ∧ u = zI 0 ∧ ((sp, oB 22 [.int (zI (pp : Int)), .int (zI (pp : Int))]) :: Z) = ws) ∨ (∃ x : Nat, mPlace ta tb r pp = some x ∧ u = zI 1 ∧ ((sp, oB 22 [.int (zI (x : Int)), .int (zI (x : Int))]) :: Z) = ws)))) 0 0 (gA X) := by
  refine Met.g (by decide) (Nat.le_of_ble_eq_true rfl) ?_
  intro p e s m below meth c ls hx hb hr hts hown hlocks hml hin hG hl
  have hl : lv_has ls 3 [(0, .ref rm), (1, .ref sp), (2, .ref mt)] := hl
  refine lv_aload_n hx hb dX17_follows_0 rfl (lv_at hl 1 rfl) ?_
  refine lv_aload_n hx hb dX17_follows_1 rfl (lv_at hl 1 rfl) ?_
  refine g_get (ci := 22) hx hb hts in_X24 hown hG (hG.at 0 rfl) rfl 0 (Nat.le_of_ble_eq_true rfl) (hts _ q2294) (fun _ h9 => h9) rfl dX17_follows_2 ?_
  refine lv_aload_n hx hb dX17_follows_5 rfl (lv_at hl 1 rfl) ?_
  refine g_get (ci := 22) hx hb hts in_X24 hown hG (hG.at 0 rfl) rfl 0 (Nat.le_of_ble_eq_true rfl) (hts _ q2294) (fun _ h9 => h9) rfl dX17_follows_6 ?_
  refine g_cv (va_runV (As := [.int (zI (pp : Int)), .int (zI (pp : Int))]) (rest := []) ⟨hx, hb, hml, hown, hts⟩ (metX24_is) (cwV 2 hts (lw_V q2425 q2360 q2361 q153 q2362) rfl rfl rfl (by decide +kernel) ⟨Nat.le_of_ble_eq_true rfl, Nat.le_of_ble_eq_true rfl⟩) (g_preV hG (g_recv hG (hG.at 0 rfl) (ci := 22) rfl)) rfl rfl hl.1 rfl (lv_room (Nat.le_of_ble_eq_true rfl)) dX17_follows_9 ⟨Nat.le_of_ble_eq_true rfl, Nat.le_of_ble_eq_true rfl⟩) hG (fun F_2 V_3 ws_ H locs hp hG => ?_)
  obtain ⟨rfl, rfl, rfl⟩ := hp
  have hG : gW X F V ((sp, oB 22 [.int (zI (pp : Int)), .int (zI (pp : Int))]) :: Z) s H locs := hG
  refine lv_aload_n hx hb dX17_follows_12 rfl (lv_at hl 0 rfl) ?_
  refine lv_aload_n hx hb dX17_follows_13 rfl (lv_at hl 1 rfl) ?_
  refine lv_aload_n hx hb dX17_follows_14 rfl (lv_at hl 2 rfl) ?_
  refine g_ci (va_runSU (C := qc.1) (g_cls hG hci) (As := [.ref sp, .ref mt]) (rest := []) ⟨hx, hb, hml, hown, hts⟩ (metX16_follows (pp := pp) (qq := pp) hm h24 ⟨by omega, by omega⟩) (va_cwSU 2 hts (lw_SU q2426 q2396 q2113 q2394 q145 q2406) rfl rfl rfl (by decide +kernel) ⟨Nat.le_of_ble_eq_true rfl, Nat.le_of_ble_eq_true rfl⟩) (g_preV hG (g_recv hG (hG.fz hrm) hci)) rfl rfl hl.1 rfl (lv_room (Nat.le_of_ble_eq_true rfl)) dX17_follows_15 ⟨Nat.le_of_ble_eq_true rfl, Nat.le_of_ble_eq_true rfl⟩) hG (fun r_4 F_5 V_6 ws_ H locs hp hG => ?_)
  rcases hp with ⟨rfl, rfl, ⟨hf, rfl, rfl⟩ | ⟨x, y, hf, rfl, rfl⟩⟩
  · have hG : gW X F V ((sp, oB 22 [.int (zI (pp : Int)), .int (zI (pp : Int))]) :: Z) s H locs := hG
    rw [show pp - pp + 1 = 1 by omega, fSpan_1] at hf
    exact g_zret hx hb hr hlocks rfl hG (⟨rfl, rfl, Or.inl ⟨by cases hq : mPlace ta tb r pp with | none => rfl | some z => (rw [hq] at hf; cases hf), rfl, rfl⟩⟩) ⟨Nat.le_of_ble_eq_true rfl, Nat.le_of_ble_eq_true rfl⟩ dX17_follows_18
  · have hG : gW X F V ((sp, oB 22 [.int (zI (x : Int)), .int (zI (y : Int))]) :: Z) s H locs := hG
    rw [show pp - pp + 1 = 1 by omega, fSpan_1] at hf
    exact g_zret hx hb hr hlocks rfl hG (⟨rfl, rfl, Or.inr ⟨x, by cases hq : mPlace ta tb r pp with | none => (rw [hq] at hf; cases hf) | some z => (rw [hq] at hf; cases hf; rfl), rfl, by have e : x = y := (by cases hq : mPlace ta tb r pp with | none => (rw [hq] at hf; cases hf) | some z => (rw [hq] at hf; cases hf; rfl)); rw [e]⟩⟩) ⟨Nat.le_of_ble_eq_true rfl, Nat.le_of_ble_eq_true rfl⟩ dX17_follows_18

set_option maxHeartbeats 4000000 in
theorem metX19_follows {l : Launch} {X : gX} {F : gF} {V : gV} {Z : va_W} {rm sp mt r pp qq : Nat} {ta tb : Tx} (hm : isMatch X F mt r ta tb) (h24 : ta.length ≤ 24 ∧ tb.length ≤ 24) (hpq : pp ≤ qq ∧ qq < ta.length) {ci : Nat} {qc : vw_C} {fs : List Value} (hrm : F.1 rm = some (oB ci fs)) (hci : gCL[ci]? = some qc) : Met l yX19_follows (ws_ yX19_follows cX19_follows 4 (some FieldType.boolean)) ({ frames := 3, cells := 0, slots := 0, locals := 69 }) (gP X F V ((sp, oB 22 [.int (zI (pp : Int)), .int (zI (qq : Int))]) :: Z) [.ref rm, .ref sp, .ref mt]) (gQi X (fun u G U ws => F = G ∧ V = U ∧ ((upC (mPlace ta tb r) pp = none ∧ u = zI 0 ∧ ((sp, oB 22 [.int (zI (pp : Int)), .int (zI (pp : Int))]) :: Z) = ws) ∨ (∃ x : Nat, upC (mPlace ta tb r) pp = some x ∧ u = zI 1 ∧ ((sp, oB 22 [.int (zI (x : Int)), .int (zI (x : Int))]) :: Z) = ws)))) 0 0 (gA X) := by
  refine Met.g (by decide) (Nat.le_of_ble_eq_true rfl) ?_
  intro p e s m below meth c ls hx hb hr hts hown hlocks hml hin hG hl
  have hl : lv_has ls 4 [(0, .ref rm), (1, .ref sp), (2, .ref mt)] := hl
  refine lv_aload_n hx hb dX19_follows_0 rfl (lv_at hl 0 rfl) ?_
  refine lv_aload_n hx hb dX19_follows_1 rfl (lv_at hl 1 rfl) ?_
  refine lv_aload_n hx hb dX19_follows_2 rfl (lv_at hl 2 rfl) ?_
  refine g_ci (va_runSU (C := qc.1) (g_cls hG hci) (As := [.ref sp, .ref mt]) (rest := []) ⟨hx, hb, hml, hown, hts⟩ (metX17_follows (pp := pp) (qq := qq) hm h24 hpq hrm hci) (va_cwSU 2 hts (lw_SU q2422 q3763 q2139 q2423 q146 q2424) rfl rfl rfl (by decide +kernel) ⟨Nat.le_of_ble_eq_true rfl, Nat.le_of_ble_eq_true rfl⟩) (g_preV hG (g_recv hG (hG.fz hrm) hci)) rfl rfl hl.1 rfl (lv_room (Nat.le_of_ble_eq_true rfl)) dX19_follows_3 ⟨Nat.le_of_ble_eq_true rfl, Nat.le_of_ble_eq_true rfl⟩) hG (fun r_1 F_2 V_3 ws_ H locs hp hG => ?_)
  rcases hp with ⟨rfl, rfl, ⟨hf, rfl, rfl⟩ | ⟨x, hf, rfl, rfl⟩⟩
  · have hG : gW X F V ((sp, oB 22 [.int (zI (pp : Int)), .int (zI (pp : Int))]) :: Z) s H locs := hG
    have hmZ := hm
    obtain ⟨pl, fp, w5, w6, w7, w8, hm1, hm2, hm3⟩ := hmZ
    refine g_eq (tgt := 11) hx hb dX19_follows_6 (by decide) (by decide) (fun h1 => ?_) (fun h1 => ?_)
    · refine lv_aload_n hx hb dX19_follows_11 rfl (lv_at hl 1 rfl) ?_
      refine g_get (ci := 22) hx hb hts in_X24 hown hG (hG.at 0 rfl) rfl 0 (Nat.le_of_ble_eq_true rfl) (hts _ q2297) (fun _ h9 => h9) rfl dX19_follows_12 ?_
      refine lv_iconst (v := zI 1) hx hb dX19_follows_15 (by decide +kernel) ?_
      refine g_isub hx hb dX19_follows_16 ?_
      refine lv_istore_n (lv' := [(3, .int (zI ((pp : Int) - 1))), (0, .ref rm), (1, .ref sp), (2, .ref mt)]) hx hb dX19_follows_17 rfl hl (by decide) rfl (fun ls hl => ?_)
      have hl : lv_has ls 4 [(3, .int (zI ((pp : Int) - 1))), (0, .ref rm), (1, .ref sp), (2, .ref mt)] := by exact hl
      refine g_loop (fun mz H locs ls => ∃ (d : Nat), (d ≤ pp ∧ mz = d ∧ upC (mPlace ta tb r) pp = if d = 0 then none else upC (mPlace ta tb r) (d - 1)) ∧ gW X F V ((sp, oB 22 [.int (zI (pp : Int)), .int (zI (pp : Int))]) :: Z) s H locs ∧ lv_has ls 4 [(1, .ref sp), (2, .ref mt), (3, .int (zI ((d : Int) - 1)))]) pp ⟨pp, ⟨Nat.le_refl _, rfl, by cases pp with | zero => (rw [if_pos rfl]; exact hf) | succ pp => (rw [if_neg (by omega), Nat.add_sub_cancel]; exact upC_dn hf)⟩, hG, (lv_sub hl [2, 3, 0] rfl)⟩ (fun mz ihA H locs ls hI => ?_)
      obtain ⟨d, ⟨hd, hmz, hup⟩, hG, hl⟩ := hI
      refine lv_iload_n hx hb dX19_follows_18 rfl (lv_at hl 2 rfl) ?_
      refine g_lt (tgt := 38) hx hb dX19_follows_19 (by decide) (by omega) (fun h2 => ?_) (fun h2 => ?_)
      · have hd0 : d = 0 := by omega
        refine lv_iload_n hx hb dX19_follows_38 rfl (lv_at hl 2 rfl) ?_
        refine g_lt (tgt := 58) hx hb dX19_follows_39 (by decide) (by omega) (fun h3 => ?_) (fun h3 => ?_)
        · refine lv_iload_n hx hb dX19_follows_58 rfl (lv_at hl 2 rfl) ?_
          refine g_lt (tgt := 66) hx hb dX19_follows_59 (by decide) (by omega) (fun h4 => ?_) (fun h4 => ?_)
          · refine lv_iconst (v := zI 0) hx hb dX19_follows_66 (by decide +kernel) ?_
            exact g_zret hx hb hr hlocks rfl hG (⟨rfl, rfl, Or.inl ⟨by rw [hup, if_pos hd0], rfl, rfl⟩⟩) ⟨Nat.le_of_ble_eq_true rfl, Nat.le_of_ble_eq_true rfl⟩ dX19_follows_67
          · exfalso; omega
        · exfalso; omega
      · obtain ⟨d, rfl⟩ : ∃ z, d = z + 1 := ⟨d - 1, by omega⟩
        rw [if_neg (by omega), Nat.add_sub_cancel] at hup
        have hl : lv_has ls 4 [(1, .ref sp), (2, .ref mt), (3, .int (zI (d : Int)))] := by rw [show ((d + 1 : Nat) : Int) - 1 = (d : Int) by omega] at hl; exact hl
        rcases hcc : mPlace ta tb r d with _ | x
        · have hpl : fp d = zI (-1) := (hm3 d (by omega)).trans (by rw [hcc]; rfl)
          refine lv_aload_n hx hb dX19_follows_22 rfl (lv_at hl 1 rfl) ?_
          refine g_get (ci := 13) hx hb hts in_X15 hown hG (hG.fz hm1) rfl 2 (Nat.le_of_ble_eq_true rfl) (hts _ q1911) (fun _ h9 => h9) rfl dX19_follows_23 ?_
          refine lv_iload_n hx hb dX19_follows_26 rfl (lv_at hl 2 rfl) ?_
          refine g_iald hx hb hG (hG.fz hm2) d ⟨rfl, by omega, by omega⟩ (v := zI (-1)) hpl dX19_follows_27 ?_
          refine lv_iconst (v := zI (-1)) hx hb dX19_follows_28 (by decide +kernel) ?_
          refine g_cne (tgt := 38) hx hb dX19_follows_29 (by decide) (by omega) (fun h3 => ?_) (fun h3 => ?_)
          · exfalso; omega
          · refine lv_iinc (v := zI ((d : Int) - 1 : Int)) (lv' := [(3, .int (zI ((d : Int) - 1 : Int))), (1, .ref sp), (2, .ref mt)]) hx hb dX19_follows_32 hl (k := 2) rfl ((zI_add _ _).trans (congrArg zI (by omega))) (by decide) rfl (fun ls hl => ?_)
            refine lv_goto (tgt := 18) hx hb dX19_follows_35 (by decide) ?_
            exact ihA d (by omega) H locs ls ⟨d, ⟨by omega, rfl, by rw [hup]; cases d with | zero => (rw [if_pos rfl]; exact hcc) | succ d => (rw [if_neg (by omega), Nat.add_sub_cancel]; exact upC_dn hcc)⟩, hG, (lv_sub hl [1, 2, 0] rfl)⟩
        · have hpl : fp d = zI (x : Int) := (hm3 d (by omega)).trans (by rw [hcc]; rfl)
          refine lv_aload_n hx hb dX19_follows_22 rfl (lv_at hl 1 rfl) ?_
          refine g_get (ci := 13) hx hb hts in_X15 hown hG (hG.fz hm1) rfl 2 (Nat.le_of_ble_eq_true rfl) (hts _ q1911) (fun _ h9 => h9) rfl dX19_follows_23 ?_
          refine lv_iload_n hx hb dX19_follows_26 rfl (lv_at hl 2 rfl) ?_
          refine g_iald hx hb hG (hG.fz hm2) d ⟨rfl, by omega, by omega⟩ (v := zI (x : Int)) hpl dX19_follows_27 ?_
          have hxl := (mPlace_lt hcc).2
          refine lv_iconst (v := zI (-1)) hx hb dX19_follows_28 (by decide +kernel) ?_
          refine g_cne (tgt := 38) hx hb dX19_follows_29 (by decide) (by omega) (fun h3 => ?_) (fun h3 => ?_)
          · refine lv_iload_n hx hb dX19_follows_38 rfl (lv_at hl 2 rfl) ?_
            refine g_lt (tgt := 58) hx hb dX19_follows_39 (by decide) (by omega) (fun h4 => ?_) (fun h4 => ?_)
            · exfalso; omega
            · refine lv_aload_n hx hb dX19_follows_42 rfl (lv_at hl 0 rfl) ?_
              refine lv_aload_n hx hb dX19_follows_43 rfl (lv_at hl 1 rfl) ?_
              refine g_get (ci := 13) hx hb hts in_X15 hown hG (hG.fz hm1) rfl 2 (Nat.le_of_ble_eq_true rfl) (hts _ q1911) (fun _ h9 => h9) rfl dX19_follows_44 ?_
              refine lv_iload_n hx hb dX19_follows_47 rfl (lv_at hl 2 rfl) ?_
              refine g_iald hx hb hG (hG.fz hm2) d ⟨rfl, by omega, by omega⟩ (v := zI (x : Int)) hpl dX19_follows_48 ?_
              refine lv_aload_n hx hb dX19_follows_49 rfl (lv_at hl 1 rfl) ?_
              refine g_get (ci := 13) hx hb hts in_X15 hown hG (hG.fz hm1) rfl 2 (Nat.le_of_ble_eq_true rfl) (hts _ q1911) (fun _ h9 => h9) rfl dX19_follows_50 ?_
              refine lv_iload_n hx hb dX19_follows_53 rfl (lv_at hl 2 rfl) ?_
              refine g_iald hx hb hG (hG.fz hm2) d ⟨rfl, by omega, by omega⟩ (v := zI (x : Int)) hpl dX19_follows_54 ?_
              refine g_cv (va_runV (As := [.int (zI (x : Int)), .int (zI (x : Int))]) (rest := []) ⟨hx, hb, hml, hown, hts⟩ (metX24_is) (cwV 2 hts (lw_V q2427 q2360 q2361 q153 q2362) rfl rfl rfl (by decide +kernel) ⟨Nat.le_of_ble_eq_true rfl, Nat.le_of_ble_eq_true rfl⟩) (g_preV hG (g_recv hG (hG.at 0 rfl) (ci := 22) rfl)) rfl rfl hl.1 rfl (lv_room (Nat.le_of_ble_eq_true rfl)) dX19_follows_55 ⟨Nat.le_of_ble_eq_true rfl, Nat.le_of_ble_eq_true rfl⟩) hG (fun F_5 V_6 ws_ H locs hp hG => ?_)
              obtain ⟨rfl, rfl, rfl⟩ := hp
              have hG : gW X F V ((sp, oB 22 [.int (zI (x : Int)), .int (zI (x : Int))]) :: Z) s H locs := hG
              refine lv_iload_n hx hb dX19_follows_58 rfl (lv_at hl 2 rfl) ?_
              refine g_lt (tgt := 66) hx hb dX19_follows_59 (by decide) (by omega) (fun h5 => ?_) (fun h5 => ?_)
              · exfalso; omega
              · refine lv_iconst (v := zI 1) hx hb dX19_follows_62 (by decide +kernel) ?_
                refine lv_goto (tgt := 67) hx hb dX19_follows_63 (by decide) ?_
                exact g_zret hx hb hr hlocks rfl hG (⟨rfl, rfl, Or.inr ⟨x, by rw [hup]; exact upC_hit hcc, rfl, rfl⟩⟩) ⟨Nat.le_of_ble_eq_true rfl, Nat.le_of_ble_eq_true rfl⟩ dX19_follows_67
          · exfalso; omega
    · exfalso; omega
  · have hG : gW X F V ((sp, oB 22 [.int (zI (x : Int)), .int (zI (x : Int))]) :: Z) s H locs := hG
    refine g_eq (tgt := 11) hx hb dX19_follows_6 (by decide) (by decide) (fun h1 => ?_) (fun h1 => ?_)
    · exfalso; omega
    · refine lv_iconst (v := zI 1) hx hb dX19_follows_9 (by decide +kernel) ?_
      exact g_zret hx hb hr hlocks rfl hG (⟨rfl, rfl, Or.inr ⟨x, upC_hit hf, rfl, rfl⟩⟩) ⟨Nat.le_of_ble_eq_true rfl, Nat.le_of_ble_eq_true rfl⟩ dX19_follows_10

set_option maxHeartbeats 4000000 in
theorem metX22_follows {l : Launch} {X : gX} {F : gF} {V : gV} {Z : va_W} {rm sp mt r pp qq : Nat} {ta tb : Tx} (hm : isMatch X F mt r ta tb) (h24 : ta.length ≤ 24 ∧ tb.length ≤ 24) (hpq : pp ≤ qq ∧ qq < ta.length) {ci : Nat} {qc : vw_C} {fs : List Value} (hrm : F.1 rm = some (oB ci fs)) (hci : gCL[ci]? = some qc) : Met l yX22_follows (ws_ yX22_follows cX22_follows 4 (some FieldType.boolean)) ({ frames := 4, cells := 0, slots := 0, locals := 92 }) (gP X F V ((sp, oB 22 [.int (zI (pp : Int)), .int (zI (qq : Int))]) :: Z) [.ref rm, .ref sp, .ref mt]) (gQi X (fun u G U ws => F = G ∧ V = U ∧ ((upC (mPlace ta tb r) pp = none ∧ u = zI 0 ∧ ((sp, oB 22 [.int (zI (pp : Int)), .int (zI (pp : Int))]) :: Z) = ws) ∨ (∃ x : Nat, upC (mPlace ta tb r) pp = some x ∧ u = zI 1 ∧ ((sp, oB 22 [.int (zI (x : Int)), .int (zI ((tb.length - 1 : Nat) : Int))]) :: Z) = ws)))) 0 0 (gA X) := by
  refine Met.g (by decide) (Nat.le_of_ble_eq_true rfl) ?_
  intro p e s m below meth c ls hx hb hr hts hown hlocks hml hin hG hl
  have hl : lv_has ls 4 [(0, .ref rm), (1, .ref sp), (2, .ref mt)] := hl
  refine lv_aload_n hx hb dX22_follows_0 rfl (lv_at hl 0 rfl) ?_
  refine lv_aload_n hx hb dX22_follows_1 rfl (lv_at hl 1 rfl) ?_
  refine lv_aload_n hx hb dX22_follows_2 rfl (lv_at hl 2 rfl) ?_
  refine g_ci (va_runSU (C := qc.1) (g_cls hG hci) (As := [.ref sp, .ref mt]) (rest := []) ⟨hx, hb, hml, hown, hts⟩ (metX19_follows (pp := pp) (qq := qq) hm h24 hpq hrm hci) (va_cwSU 2 hts (lw_SU q2438 q3764 q2178 q2420 q148 q2421) rfl rfl rfl (by decide +kernel) ⟨Nat.le_of_ble_eq_true rfl, Nat.le_of_ble_eq_true rfl⟩) (g_preV hG (g_recv hG (hG.fz hrm) hci)) rfl rfl hl.1 rfl (lv_room (Nat.le_of_ble_eq_true rfl)) dX22_follows_3 ⟨Nat.le_of_ble_eq_true rfl, Nat.le_of_ble_eq_true rfl⟩) hG (fun r_1 F_2 V_3 ws_ H locs hp hG => ?_)
  rcases hp with ⟨rfl, rfl, ⟨hf, rfl, rfl⟩ | ⟨x, hf, rfl, rfl⟩⟩
  · have hG : gW X F V ((sp, oB 22 [.int (zI (pp : Int)), .int (zI (pp : Int))]) :: Z) s H locs := hG
    refine lv_istore_n (lv' := [(3, .int (zI 0)), (0, .ref rm), (1, .ref sp), (2, .ref mt)]) hx hb dX22_follows_6 rfl hl (by decide) rfl (fun ls hl => ?_)
    refine lv_iload_n hx hb dX22_follows_7 rfl (lv_at hl 0 rfl) ?_
    refine g_eq (tgt := 25) hx hb dX22_follows_8 (by decide) (by decide) (fun h1 => ?_) (fun h1 => ?_)
    · refine lv_iload_n hx hb dX22_follows_25 rfl (lv_at hl 0 rfl) ?_
      exact g_zret hx hb hr hlocks rfl hG (⟨rfl, rfl, Or.inl ⟨hf, rfl, rfl⟩⟩) ⟨Nat.le_of_ble_eq_true rfl, Nat.le_of_ble_eq_true rfl⟩ dX22_follows_26
    · exfalso; omega
  · have hG : gW X F V ((sp, oB 22 [.int (zI (x : Int)), .int (zI (x : Int))]) :: Z) s H locs := hG
    have hmZ := hm
    obtain ⟨pl, fp, w5, w6, w7, w8, hm1, hm2, hm3⟩ := hmZ
    have hxl := upC_lt (fun i x h => (mPlace_lt h).2) pp x hf
    refine lv_istore_n (lv' := [(3, .int (zI 1)), (0, .ref rm), (1, .ref sp), (2, .ref mt)]) hx hb dX22_follows_6 rfl hl (by decide) rfl (fun ls hl => ?_)
    refine lv_iload_n hx hb dX22_follows_7 rfl (lv_at hl 0 rfl) ?_
    refine g_eq (tgt := 25) hx hb dX22_follows_8 (by decide) (by decide) (fun h1 => ?_) (fun h1 => ?_)
    · exfalso; omega
    · refine lv_aload_n hx hb dX22_follows_11 rfl (lv_at hl 2 rfl) ?_
      refine lv_aload_n hx hb dX22_follows_12 rfl (lv_at hl 2 rfl) ?_
      refine g_get (ci := 22) hx hb hts in_X24 hown hG (hG.at 0 rfl) rfl 0 (Nat.le_of_ble_eq_true rfl) (hts _ q2298) (fun _ h9 => h9) rfl dX22_follows_13 ?_
      refine lv_aload_n hx hb dX22_follows_16 rfl (lv_at hl 3 rfl) ?_
      refine g_get (ci := 13) hx hb hts in_X15 hown hG (hG.fz hm1) rfl 1 (Nat.le_of_ble_eq_true rfl) (hts _ q1909) (fun _ h9 => h9) rfl dX22_follows_17 ?_
      refine lv_iconst (v := zI 1) hx hb dX22_follows_20 (by decide +kernel) ?_
      refine g_isub hx hb dX22_follows_21 ?_
      refine g_cv (va_runV (As := [.int (zI (x : Int)), .int (zI ((tb.length : Int) - 1))]) (rest := []) ⟨hx, hb, hml, hown, hts⟩ (metX24_is) (cwV 2 hts (lw_V q2439 q2360 q2361 q153 q2362) rfl rfl rfl (by decide +kernel) ⟨Nat.le_of_ble_eq_true rfl, Nat.le_of_ble_eq_true rfl⟩) (g_preV hG (g_recv hG (hG.at 0 rfl) (ci := 22) rfl)) rfl rfl hl.1 rfl (lv_room (Nat.le_of_ble_eq_true rfl)) dX22_follows_22 ⟨Nat.le_of_ble_eq_true rfl, Nat.le_of_ble_eq_true rfl⟩) hG (fun F_5 V_6 ws_ H locs hp hG => ?_)
      obtain ⟨rfl, rfl, rfl⟩ := hp
      have hG : gW X F V ((sp, oB 22 [.int (zI (x : Int)), .int (zI ((tb.length : Int) - 1))]) :: Z) s H locs := hG
      refine lv_iload_n hx hb dX22_follows_25 rfl (lv_at hl 0 rfl) ?_
      exact g_zret hx hb hr hlocks rfl hG (⟨rfl, rfl, Or.inr ⟨x, hf, rfl, by rw [show ((tb.length - 1 : Nat) : Int) = (tb.length : Int) - 1 by omega]⟩⟩) ⟨Nat.le_of_ble_eq_true rfl, Nat.le_of_ble_eq_true rfl⟩ dX22_follows_26

