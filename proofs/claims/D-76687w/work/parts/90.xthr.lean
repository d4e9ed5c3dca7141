set_option maxRecDepth 100000
/-- a refusal, the answer's negative in it -/
def isRef (F : gF) (q k : Nat) : Prop := F.1 q = some (oB 4 [.null, .null, .null, .null, .null, .int (zI 0), .int (zI (-(k : Int)))])
def isFau (F : gF) (q k : Nat) : Prop := F.1 q = some (oB 10 [.null, .null, .null, .null, .null, .int (zI 0), .int (zI (k : Int))])
set_option maxHeartbeats 4000000 in
theorem metJ10_init_3_r {l : Launch} {X : gX} {F : gF} {V : gV} {Z : va_W} {q : Nat} {v6 : Value} : Met l yJ10_init_3 (ws_ yJ10_init_3 cJ10_init_3 5 none) ({ frames := 1, cells := 0, slots := 0, locals := 20 }) (gP X F V ((q, oB 4 [.null, .null, .null, .null, .null, .int (zI 0), v6]) :: Z) [.ref q, .null, .null, .int (zI 0), .int (zI 0)]) (gQv X (fun G U ws => F = G ∧ V = U ∧ ((q, oB 4 [.null, .null, .null, .null, .null, .int (zI 0), v6]) :: Z) = ws)) 0 0 (gA X) := by
  refine Met.g (by decide) (Nat.le_of_ble_eq_true rfl) ?_
  intro p e s m below meth c ls hx hb hr hts hown hlocks hml hin hG hl
  have hl : lv_has ls 5 [(0, .ref q), (1, .null), (2, .null), (3, .int (zI 0)), (4, .int (zI 0))] := hl
  refine lv_aload_n hx hb dJ10_init_3_0 rfl (lv_at hl 0 rfl) ?_
  refine W.objInit hx hb hown (hts _ q431) (hts _ q170) (hts _ q171) rfl (by rw [hml]; exact hl.1) rfl dJ10_init_3_1 (Nat.le_of_ble_eq_true rfl) (Nat.le_of_ble_eq_true rfl) ?_
  refine W.eq (g2 := F0 m 4 ls []) rfl ?_
  refine lv_aload_n hx hb dJ10_init_3_4 rfl (lv_at hl 0 rfl) ?_
  refine lv_aload_n hx hb dJ10_init_3_5 rfl (lv_at hl 0 rfl) ?_
  refine g_put (ci := 4) hx hb hts in_X5 tyX5 tyX5_ok nmX5 hown hG 0 rfl rfl 0 (Nat.le_of_ble_eq_true rfl) (hts _ q456) (fun _ h9 => h9) rfl (tyX5_ok 0 (Nat.le_of_ble_eq_true rfl)) rfl rfl (Nat.le_of_ble_eq_true rfl) dJ10_init_3_6 (fun H locs (hG : gW X F V ((q, oB 4 [.ref q, .null, .null, .null, .null, .int (zI 0), v6]) :: Z) s H locs) => ?_)
  refine lv_aload_n hx hb dJ10_init_3_9 rfl (lv_at hl 0 rfl) ?_
  refine g_getZq hx hb hG.1.2.2.2.2.2.2.2.2.2.2.2.2.1 hG hown (hts _ q432) dJ10_init_3_10 (fun zo_1 => ?_)
  refine g_put (ci := 4) hx hb hts in_X5 tyX5 tyX5_ok nmX5 hown hG 0 rfl rfl 1 (Nat.le_of_ble_eq_true rfl) (hts _ q457) (fun _ h9 => h9) rfl (tyX5_ok 1 (Nat.le_of_ble_eq_true rfl)) (va_rf_narA _ _) (va_rf_fitA _ _) (Nat.le_of_ble_eq_true rfl) dJ10_init_3_13 (fun H locs (hG : gW X F V ((q, oB 4 [.ref q, va_rf zo_1, .null, .null, .null, .int (zI 0), v6]) :: Z) s H locs) => ?_)
  refine lv_aload_n hx hb dJ10_init_3_16 rfl (lv_at hl 0 rfl) ?_
  refine g_getZq hx hb hG.1.2.2.2.2.2.2.2.2.2.2.2.2.2.1 hG hown (hts _ q434) dJ10_init_3_17 (fun zo_2 => ?_)
  refine g_put (ci := 4) hx hb hts in_X5 tyX5 tyX5_ok nmX5 hown hG 0 rfl rfl 2 (Nat.le_of_ble_eq_true rfl) (hts _ q458) (fun _ h9 => h9) rfl (tyX5_ok 2 (Nat.le_of_ble_eq_true rfl)) (va_rf_nar _ _) (va_rf_fit _ _) (Nat.le_of_ble_eq_true rfl) dJ10_init_3_20 (fun H locs (hG : gW X F V ((q, oB 4 [.ref q, va_rf zo_1, va_rf zo_2, .null, .null, .int (zI 0), v6]) :: Z) s H locs) => ?_)
  refine lv_iload hx hb dJ10_init_3_23 (lv_at hl 4 rfl) ?_
  refine g_eq (tgt := 36) hx hb dJ10_init_3_25 (by decide) (by decide) (fun h1 => ?_) (fun h1 => ?_)
  · refine lv_aload_n hx hb dJ10_init_3_36 rfl (lv_at hl 0 rfl) ?_
    refine lv_null hx hb dJ10_init_3_37 ?_
    refine g_put (ci := 4) hx hb hts in_X5 tyX5 tyX5_ok nmX5 hown hG 0 rfl rfl 1 (Nat.le_of_ble_eq_true rfl) (hts _ q457) (fun _ h9 => h9) rfl (tyX5_ok 1 (Nat.le_of_ble_eq_true rfl)) rfl rfl (Nat.le_of_ble_eq_true rfl) dJ10_init_3_38 (fun H locs (hG : gW X F V ((q, oB 4 [.ref q, .null, va_rf zo_2, .null, .null, .int (zI 0), v6]) :: Z) s H locs) => ?_)
    refine lv_aload_n hx hb dJ10_init_3_41 rfl (lv_at hl 0 rfl) ?_
    refine lv_aload_nN hx hb dJ10_init_3_42 rfl (lv_at hl 1 rfl) ?_
    refine g_put (ci := 4) hx hb hts in_X5 tyX5 tyX5_ok nmX5 hown hG 0 rfl rfl 3 (Nat.le_of_ble_eq_true rfl) (hts _ q455) (fun _ h9 => h9) rfl (tyX5_ok 3 (Nat.le_of_ble_eq_true rfl)) rfl rfl (Nat.le_of_ble_eq_true rfl) dJ10_init_3_43 (fun H locs (hG : gW X F V ((q, oB 4 [.ref q, .null, va_rf zo_2, .null, .null, .int (zI 0), v6]) :: Z) s H locs) => ?_)
    refine lv_aload_n hx hb dJ10_init_3_46 rfl (lv_at hl 0 rfl) ?_
    refine lv_aload_nN hx hb dJ10_init_3_47 rfl (lv_at hl 2 rfl) ?_
    refine g_put (ci := 4) hx hb hts in_X5 tyX5 tyX5_ok nmX5 hown hG 0 rfl rfl 0 (Nat.le_of_ble_eq_true rfl) (hts _ q456) (fun _ h9 => h9) rfl (tyX5_ok 0 (Nat.le_of_ble_eq_true rfl)) rfl rfl (Nat.le_of_ble_eq_true rfl) dJ10_init_3_48 (fun H locs (hG : gW X F V ((q, oB 4 [.null, .null, va_rf zo_2, .null, .null, .int (zI 0), v6]) :: Z) s H locs) => ?_)
    refine lv_iload_n hx hb dJ10_init_3_51 rfl (lv_at hl 3 rfl) ?_
    refine g_ne (tgt := 60) hx hb dJ10_init_3_52 (by decide) (by decide) (fun h2 => ?_) (fun h2 => ?_)
    · exfalso; omega
    · refine lv_aload_n hx hb dJ10_init_3_55 rfl (lv_at hl 0 rfl) ?_
      refine lv_null hx hb dJ10_init_3_56 ?_
      refine g_put (ci := 4) hx hb hts in_X5 tyX5 tyX5_ok nmX5 hown hG 0 rfl rfl 2 (Nat.le_of_ble_eq_true rfl) (hts _ q458) (fun _ h9 => h9) rfl (tyX5_ok 2 (Nat.le_of_ble_eq_true rfl)) rfl rfl (Nat.le_of_ble_eq_true rfl) dJ10_init_3_57 (fun H locs (hG : gW X F V ((q, oB 4 [.null, .null, .null, .null, .null, .int (zI 0), v6]) :: Z) s H locs) => ?_)
      exact g_vret hx hb hr hlocks hG (⟨rfl, rfl, rfl⟩) ⟨Nat.le_of_ble_eq_true rfl, Nat.le_of_ble_eq_true rfl⟩ dJ10_init_3_60
  · exfalso; omega

set_option maxHeartbeats 4000000 in
theorem metJ11_init_2_r {l : Launch} {X : gX} {F : gF} {V : gV} {Z : va_W} {q : Nat} {v6 : Value} : Met l yJ11_init_2 (ws_ yJ11_init_2 cJ11_init_2 5 none) ({ frames := 2, cells := 0, slots := 0, locals := 44 }) (gP X F V ((q, oB 4 [.null, .null, .null, .null, .null, .int (zI 0), v6]) :: Z) [.ref q, .null, .null, .int (zI 0), .int (zI 0)]) (gQv X (fun G U ws => F = G ∧ V = U ∧ ((q, oB 4 [.null, .null, .null, .null, .null, .int (zI 0), v6]) :: Z) = ws)) 0 0 (gA X) := by
  refine Met.g (by decide) (Nat.le_of_ble_eq_true rfl) ?_
  intro p e s m below meth c ls hx hb hr hts hown hlocks hml hin hG hl
  have hl : lv_has ls 5 [(0, .ref q), (1, .null), (2, .null), (3, .int (zI 0)), (4, .int (zI 0))] := hl
  refine lv_aload_n hx hb dJ11_init_2_0 rfl (lv_at hl 0 rfl) ?_
  refine lv_aload_nN hx hb dJ11_init_2_1 rfl (lv_at hl 1 rfl) ?_
  refine lv_aload_nN hx hb dJ11_init_2_2 rfl (lv_at hl 2 rfl) ?_
  refine lv_iload_n hx hb dJ11_init_2_3 rfl (lv_at hl 3 rfl) ?_
  refine lv_iload hx hb dJ11_init_2_4 (lv_at hl 4 rfl) ?_
  refine g_cv (va_runI (As := [.null, .null, .int (zI 0), .int (zI 0)]) (rest := []) ⟨hx, hb, hml, hown, hts⟩ (metJ10_init_3_r) (cwI 4 hts (lw_meth q513) rfl rfl rfl (hts _ q103) (hts _ q511) (hts _ q512) rfl (by decide +kernel) ⟨Nat.le_of_ble_eq_true rfl, Nat.le_of_ble_eq_true rfl⟩) (g_preS hG) rfl rfl hl.1 rfl (lv_room (Nat.le_of_ble_eq_true rfl)) dJ11_init_2_6 ⟨Nat.le_of_ble_eq_true rfl, Nat.le_of_ble_eq_true rfl⟩) hG (fun F_2 V_3 ws_ H locs hp hG => ?_)
  obtain ⟨rfl, rfl, rfl⟩ := hp
  have hG : gW X F V ((q, oB 4 [.null, .null, .null, .null, .null, .int (zI 0), v6]) :: Z) s H locs := hG
  exact g_vret hx hb hr hlocks hG (⟨rfl, rfl, rfl⟩) ⟨Nat.le_of_ble_eq_true rfl, Nat.le_of_ble_eq_true rfl⟩ dJ11_init_2_9

set_option maxHeartbeats 4000000 in
theorem metX5_init {l : Launch} {X : gX} {F : gF} {V : gV} {Z : va_W} {q : Nat} {k : Int} : Met l yX5_init (ws_ yX5_init cX5_init 2 none) ({ frames := 3, cells := 0, slots := 0, locals := 68 }) (gP X F V ((q, oB 4 [.null, .null, .null, .null, .null, .int (zI 0), .int (zI 0)]) :: Z) [.ref q, .int (zI k)]) (gQv X (fun G U ws => F = G ∧ V = U ∧ ((q, oB 4 [.null, .null, .null, .null, .null, .int (zI 0), .int (zI k)]) :: Z) = ws)) 0 0 (gA X) := by
  refine Met.g (by decide) (Nat.le_of_ble_eq_true rfl) ?_
  intro p e s m below meth c ls hx hb hr hts hown hlocks hml hin hG hl
  have hl : lv_has ls 2 [(0, .ref q), (1, .int (zI k))] := hl
  refine lv_aload_n hx hb dX5_init_0 rfl (lv_at hl 0 rfl) ?_
  refine lv_null hx hb dX5_init_1 ?_
  refine lv_null hx hb dX5_init_2 ?_
  refine lv_iconst (v := zI 0) hx hb dX5_init_3 (by decide +kernel) ?_
  refine lv_iconst (v := zI 0) hx hb dX5_init_4 (by decide +kernel) ?_
  refine g_cv (va_runI (As := [.null, .null, .int (zI 0), .int (zI 0)]) (rest := []) ⟨hx, hb, hml, hown, hts⟩ (metJ11_init_2_r) (cwI 4 hts (lw_meth q510) rfl rfl rfl (hts _ q104) (hts _ q508) (hts _ q509) rfl (by decide +kernel) ⟨Nat.le_of_ble_eq_true rfl, Nat.le_of_ble_eq_true rfl⟩) (g_preS hG) rfl rfl hl.1 rfl (lv_room (Nat.le_of_ble_eq_true rfl)) dX5_init_5 ⟨Nat.le_of_ble_eq_true rfl, Nat.le_of_ble_eq_true rfl⟩) hG (fun F_2 V_3 ws_ H locs hp hG => ?_)
  obtain ⟨rfl, rfl, rfl⟩ := hp
  have hG : gW X F V ((q, oB 4 [.null, .null, .null, .null, .null, .int (zI 0), .int (zI 0)]) :: Z) s H locs := hG
  refine lv_aload_n hx hb dX5_init_8 rfl (lv_at hl 0 rfl) ?_
  refine lv_iload_n hx hb dX5_init_9 rfl (lv_at hl 1 rfl) ?_
  refine g_putF (ci := 4) hx hb hts in_X5 tyX5 tyX5_ok nmX5 hown hin hG 0 rfl rfl 6 (Nat.le_of_ble_eq_true rfl) (hts _ q514) (fun _ h9 => h9) rfl rfl (tyX5_ok 6 (Nat.le_of_ble_eq_true rfl)) rfl rfl (Nat.le_of_ble_eq_true rfl) dX5_init_10 (fun H locs (hG : gW X F V ((q, oB 4 [.null, .null, .null, .null, .null, .int (zI 0), .int (zI k)]) :: Z) s H locs) => ?_)
  exact g_vret hx hb hr hlocks hG (⟨rfl, rfl, rfl⟩) ⟨Nat.le_of_ble_eq_true rfl, Nat.le_of_ble_eq_true rfl⟩ dX5_init_13

set_option maxHeartbeats 4000000 in
theorem metJ10_init_3_f {l : Launch} {X : gX} {F : gF} {V : gV} {Z : va_W} {q : Nat} {v6 : Value} : Met l yJ10_init_3 (ws_ yJ10_init_3 cJ10_init_3 5 none) ({ frames := 1, cells := 0, slots := 0, locals := 20 }) (gP X F V ((q, oB 10 [.null, .null, .null, .null, .null, .int (zI 0), v6]) :: Z) [.ref q, .null, .null, .int (zI 0), .int (zI 0)]) (gQv X (fun G U ws => F = G ∧ V = U ∧ ((q, oB 10 [.null, .null, .null, .null, .null, .int (zI 0), v6]) :: Z) = ws)) 0 0 (gA X) := by
  refine Met.g (by decide) (Nat.le_of_ble_eq_true rfl) ?_
  intro p e s m below meth c ls hx hb hr hts hown hlocks hml hin hG hl
  have hl : lv_has ls 5 [(0, .ref q), (1, .null), (2, .null), (3, .int (zI 0)), (4, .int (zI 0))] := hl
  refine lv_aload_n hx hb dJ10_init_3_0 rfl (lv_at hl 0 rfl) ?_
  refine W.objInit hx hb hown (hts _ q431) (hts _ q170) (hts _ q171) rfl (by rw [hml]; exact hl.1) rfl dJ10_init_3_1 (Nat.le_of_ble_eq_true rfl) (Nat.le_of_ble_eq_true rfl) ?_
  refine W.eq (g2 := F0 m 4 ls []) rfl ?_
  refine lv_aload_n hx hb dJ10_init_3_4 rfl (lv_at hl 0 rfl) ?_
  refine lv_aload_n hx hb dJ10_init_3_5 rfl (lv_at hl 0 rfl) ?_
  refine g_put (ci := 10) hx hb hts in_X12 tyX12 tyX12_ok nmX12 hown hG 0 rfl rfl 0 (Nat.le_of_ble_eq_true rfl) (hts _ q456) (fun _ h9 => h9) rfl (tyX12_ok 0 (Nat.le_of_ble_eq_true rfl)) rfl rfl (Nat.le_of_ble_eq_true rfl) dJ10_init_3_6 (fun H locs (hG : gW X F V ((q, oB 10 [.ref q, .null, .null, .null, .null, .int (zI 0), v6]) :: Z) s H locs) => ?_)
  refine lv_aload_n hx hb dJ10_init_3_9 rfl (lv_at hl 0 rfl) ?_
  refine g_getZq hx hb hG.1.2.2.2.2.2.2.2.2.2.2.2.2.1 hG hown (hts _ q432) dJ10_init_3_10 (fun zo_1 => ?_)
  refine g_put (ci := 10) hx hb hts in_X12 tyX12 tyX12_ok nmX12 hown hG 0 rfl rfl 1 (Nat.le_of_ble_eq_true rfl) (hts _ q457) (fun _ h9 => h9) rfl (tyX12_ok 1 (Nat.le_of_ble_eq_true rfl)) (va_rf_narA _ _) (va_rf_fitA _ _) (Nat.le_of_ble_eq_true rfl) dJ10_init_3_13 (fun H locs (hG : gW X F V ((q, oB 10 [.ref q, va_rf zo_1, .null, .null, .null, .int (zI 0), v6]) :: Z) s H locs) => ?_)
  refine lv_aload_n hx hb dJ10_init_3_16 rfl (lv_at hl 0 rfl) ?_
  refine g_getZq hx hb hG.1.2.2.2.2.2.2.2.2.2.2.2.2.2.1 hG hown (hts _ q434) dJ10_init_3_17 (fun zo_2 => ?_)
  refine g_put (ci := 10) hx hb hts in_X12 tyX12 tyX12_ok nmX12 hown hG 0 rfl rfl 2 (Nat.le_of_ble_eq_true rfl) (hts _ q458) (fun _ h9 => h9) rfl (tyX12_ok 2 (Nat.le_of_ble_eq_true rfl)) (va_rf_nar _ _) (va_rf_fit _ _) (Nat.le_of_ble_eq_true rfl) dJ10_init_3_20 (fun H locs (hG : gW X F V ((q, oB 10 [.ref q, va_rf zo_1, va_rf zo_2, .null, .null, .int (zI 0), v6]) :: Z) s H locs) => ?_)
  refine lv_iload hx hb dJ10_init_3_23 (lv_at hl 4 rfl) ?_
  refine g_eq (tgt := 36) hx hb dJ10_init_3_25 (by decide) (by decide) (fun h1 => ?_) (fun h1 => ?_)
  · refine lv_aload_n hx hb dJ10_init_3_36 rfl (lv_at hl 0 rfl) ?_
    refine lv_null hx hb dJ10_init_3_37 ?_
    refine g_put (ci := 10) hx hb hts in_X12 tyX12 tyX12_ok nmX12 hown hG 0 rfl rfl 1 (Nat.le_of_ble_eq_true rfl) (hts _ q457) (fun _ h9 => h9) rfl (tyX12_ok 1 (Nat.le_of_ble_eq_true rfl)) rfl rfl (Nat.le_of_ble_eq_true rfl) dJ10_init_3_38 (fun H locs (hG : gW X F V ((q, oB 10 [.ref q, .null, va_rf zo_2, .null, .null, .int (zI 0), v6]) :: Z) s H locs) => ?_)
    refine lv_aload_n hx hb dJ10_init_3_41 rfl (lv_at hl 0 rfl) ?_
    refine lv_aload_nN hx hb dJ10_init_3_42 rfl (lv_at hl 1 rfl) ?_
    refine g_put (ci := 10) hx hb hts in_X12 tyX12 tyX12_ok nmX12 hown hG 0 rfl rfl 3 (Nat.le_of_ble_eq_true rfl) (hts _ q455) (fun _ h9 => h9) rfl (tyX12_ok 3 (Nat.le_of_ble_eq_true rfl)) rfl rfl (Nat.le_of_ble_eq_true rfl) dJ10_init_3_43 (fun H locs (hG : gW X F V ((q, oB 10 [.ref q, .null, va_rf zo_2, .null, .null, .int (zI 0), v6]) :: Z) s H locs) => ?_)
    refine lv_aload_n hx hb dJ10_init_3_46 rfl (lv_at hl 0 rfl) ?_
    refine lv_aload_nN hx hb dJ10_init_3_47 rfl (lv_at hl 2 rfl) ?_
    refine g_put (ci := 10) hx hb hts in_X12 tyX12 tyX12_ok nmX12 hown hG 0 rfl rfl 0 (Nat.le_of_ble_eq_true rfl) (hts _ q456) (fun _ h9 => h9) rfl (tyX12_ok 0 (Nat.le_of_ble_eq_true rfl)) rfl rfl (Nat.le_of_ble_eq_true rfl) dJ10_init_3_48 (fun H locs (hG : gW X F V ((q, oB 10 [.null, .null, va_rf zo_2, .null, .null, .int (zI 0), v6]) :: Z) s H locs) => ?_)
    refine lv_iload_n hx hb dJ10_init_3_51 rfl (lv_at hl 3 rfl) ?_
    refine g_ne (tgt := 60) hx hb dJ10_init_3_52 (by decide) (by decide) (fun h2 => ?_) (fun h2 => ?_)
    · exfalso; omega
    · refine lv_aload_n hx hb dJ10_init_3_55 rfl (lv_at hl 0 rfl) ?_
      refine lv_null hx hb dJ10_init_3_56 ?_
      refine g_put (ci := 10) hx hb hts in_X12 tyX12 tyX12_ok nmX12 hown hG 0 rfl rfl 2 (Nat.le_of_ble_eq_true rfl) (hts _ q458) (fun _ h9 => h9) rfl (tyX12_ok 2 (Nat.le_of_ble_eq_true rfl)) rfl rfl (Nat.le_of_ble_eq_true rfl) dJ10_init_3_57 (fun H locs (hG : gW X F V ((q, oB 10 [.null, .null, .null, .null, .null, .int (zI 0), v6]) :: Z) s H locs) => ?_)
      exact g_vret hx hb hr hlocks hG (⟨rfl, rfl, rfl⟩) ⟨Nat.le_of_ble_eq_true rfl, Nat.le_of_ble_eq_true rfl⟩ dJ10_init_3_60
  · exfalso; omega

set_option maxHeartbeats 4000000 in
theorem metJ11_init_2_f {l : Launch} {X : gX} {F : gF} {V : gV} {Z : va_W} {q : Nat} {v6 : Value} : Met l yJ11_init_2 (ws_ yJ11_init_2 cJ11_init_2 5 none) ({ frames := 2, cells := 0, slots := 0, locals := 44 }) (gP X F V ((q, oB 10 [.null, .null, .null, .null, .null, .int (zI 0), v6]) :: Z) [.ref q, .null, .null, .int (zI 0), .int (zI 0)]) (gQv X (fun G U ws => F = G ∧ V = U ∧ ((q, oB 10 [.null, .null, .null, .null, .null, .int (zI 0), v6]) :: Z) = ws)) 0 0 (gA X) := by
  refine Met.g (by decide) (Nat.le_of_ble_eq_true rfl) ?_
  intro p e s m below meth c ls hx hb hr hts hown hlocks hml hin hG hl
  have hl : lv_has ls 5 [(0, .ref q), (1, .null), (2, .null), (3, .int (zI 0)), (4, .int (zI 0))] := hl
  refine lv_aload_n hx hb dJ11_init_2_0 rfl (lv_at hl 0 rfl) ?_
  refine lv_aload_nN hx hb dJ11_init_2_1 rfl (lv_at hl 1 rfl) ?_
  refine lv_aload_nN hx hb dJ11_init_2_2 rfl (lv_at hl 2 rfl) ?_
  refine lv_iload_n hx hb dJ11_init_2_3 rfl (lv_at hl 3 rfl) ?_
  refine lv_iload hx hb dJ11_init_2_4 (lv_at hl 4 rfl) ?_
  refine g_cv (va_runI (As := [.null, .null, .int (zI 0), .int (zI 0)]) (rest := []) ⟨hx, hb, hml, hown, hts⟩ (metJ10_init_3_f) (cwI 4 hts (lw_meth q513) rfl rfl rfl (hts _ q103) (hts _ q511) (hts _ q512) rfl (by decide +kernel) ⟨Nat.le_of_ble_eq_true rfl, Nat.le_of_ble_eq_true rfl⟩) (g_preS hG) rfl rfl hl.1 rfl (lv_room (Nat.le_of_ble_eq_true rfl)) dJ11_init_2_6 ⟨Nat.le_of_ble_eq_true rfl, Nat.le_of_ble_eq_true rfl⟩) hG (fun F_2 V_3 ws_ H locs hp hG => ?_)
  obtain ⟨rfl, rfl, rfl⟩ := hp
  have hG : gW X F V ((q, oB 10 [.null, .null, .null, .null, .null, .int (zI 0), v6]) :: Z) s H locs := hG
  exact g_vret hx hb hr hlocks hG (⟨rfl, rfl, rfl⟩) ⟨Nat.le_of_ble_eq_true rfl, Nat.le_of_ble_eq_true rfl⟩ dJ11_init_2_9

set_option maxHeartbeats 4000000 in
theorem metX12_init {l : Launch} {X : gX} {F : gF} {V : gV} {Z : va_W} {q : Nat} {k : Int} : Met l yX12_init (ws_ yX12_init cX12_init 2 none) ({ frames := 3, cells := 0, slots := 0, locals := 68 }) (gP X F V ((q, oB 10 [.null, .null, .null, .null, .null, .int (zI 0), .int (zI 0)]) :: Z) [.ref q, .int (zI k)]) (gQv X (fun G U ws => F = G ∧ V = U ∧ ((q, oB 10 [.null, .null, .null, .null, .null, .int (zI 0), .int (zI k)]) :: Z) = ws)) 0 0 (gA X) := by
  refine Met.g (by decide) (Nat.le_of_ble_eq_true rfl) ?_
  intro p e s m below meth c ls hx hb hr hts hown hlocks hml hin hG hl
  have hl : lv_has ls 2 [(0, .ref q), (1, .int (zI k))] := hl
  refine lv_aload_n hx hb dX12_init_0 rfl (lv_at hl 0 rfl) ?_
  refine lv_null hx hb dX12_init_1 ?_
  refine lv_null hx hb dX12_init_2 ?_
  refine lv_iconst (v := zI 0) hx hb dX12_init_3 (by decide +kernel) ?_
  refine lv_iconst (v := zI 0) hx hb dX12_init_4 (by decide +kernel) ?_
  refine g_cv (va_runI (As := [.null, .null, .int (zI 0), .int (zI 0)]) (rest := []) ⟨hx, hb, hml, hown, hts⟩ (metJ11_init_2_f) (cwI 4 hts (lw_meth q510) rfl rfl rfl (hts _ q104) (hts _ q851) (hts _ q509) rfl (by decide +kernel) ⟨Nat.le_of_ble_eq_true rfl, Nat.le_of_ble_eq_true rfl⟩) (g_preS hG) rfl rfl hl.1 rfl (lv_room (Nat.le_of_ble_eq_true rfl)) dX12_init_5 ⟨Nat.le_of_ble_eq_true rfl, Nat.le_of_ble_eq_true rfl⟩) hG (fun F_2 V_3 ws_ H locs hp hG => ?_)
  obtain ⟨rfl, rfl, rfl⟩ := hp
  have hG : gW X F V ((q, oB 10 [.null, .null, .null, .null, .null, .int (zI 0), .int (zI 0)]) :: Z) s H locs := hG
  refine lv_aload_n hx hb dX12_init_8 rfl (lv_at hl 0 rfl) ?_
  refine lv_iload_n hx hb dX12_init_9 rfl (lv_at hl 1 rfl) ?_
  refine g_putF (ci := 10) hx hb hts in_X12 tyX12 tyX12_ok nmX12 hown hin hG 0 rfl rfl 6 (Nat.le_of_ble_eq_true rfl) (hts _ q852) (fun _ h9 => h9) rfl rfl (tyX12_ok 6 (Nat.le_of_ble_eq_true rfl)) rfl rfl (Nat.le_of_ble_eq_true rfl) dX12_init_10 (fun H locs (hG : gW X F V ((q, oB 10 [.null, .null, .null, .null, .null, .int (zI 0), .int (zI k)]) :: Z) s H locs) => ?_)
  exact g_vret hx hb hr hlocks hG (⟨rfl, rfl, rfl⟩) ⟨Nat.le_of_ble_eq_true rfl, Nat.le_of_ble_eq_true rfl⟩ dX12_init_13

set_option maxHeartbeats 4000000 in
theorem metX0_need_t {l : Launch} {X : gX} {F : gF} {V : gV} {Z : va_W} {b y : Int} (hb9 : b ≠ 0 ∧ -2147483648 ≤ b ∧ b < 2147483648) : Met l yX0_need (ws_ yX0_need cX0_need 2 none) ({ frames := 0, cells := 0, slots := 0, locals := 0 }) (gP X F V (Z) [.int (zI b), .int (zI y)]) (gQv X (fun G U ws => F = G ∧ V = U ∧ Z = ws)) 0 0 (gA X) := by
  refine Met.g (by decide) (Nat.le_of_ble_eq_true rfl) ?_
  intro p e s m below meth c ls hx hb hr hts hown hlocks hml hin hG hl
  have hl : lv_has ls 2 [(0, .int (zI b)), (1, .int (zI y))] := hl
  refine lv_iload_n hx hb dX0_need_0 rfl (lv_at hl 0 rfl) ?_
  refine g_ne (tgt := 13) hx hb dX0_need_1 (by decide) (by omega) (fun h1 => ?_) (fun h1 => ?_)
  · exact g_vret hx hb hr hlocks hG (⟨rfl, rfl, rfl⟩) ⟨Nat.le_of_ble_eq_true rfl, Nat.le_of_ble_eq_true rfl⟩ dX0_need_13
  · exfalso; omega

set_option maxHeartbeats 4000000 in
theorem metX0_need_f {l : Launch} {X : gX} {F : gF} {V : gV} {Z : va_W} {k : Nat} : vx_Met l yX0_need (ws_ yX0_need cX0_need 2 none) ({ frames := 4, cells := 1, slots := 7, locals := 89 }) (gP X F V (Z) [.int (zI 0), .int (zI (-(k : Int)))]) (gQv X (fun _ _ _ => False)) (gXc X (fun E q G U ws => E = "LineRemarks$Refused" ∧ gLe F G ∧ isRef G q k ∧ V = U ∧ Z = ws)) 1 7 (gA X) := by
  refine vx_Met.g (by decide) (Nat.le_of_ble_eq_true rfl) ?_
  intro p e s m below meth c ls hx hb hr hts hown hlocks hml hin hnt hG hl
  have hl : lv_has ls 2 [(0, .int (zI 0)), (1, .int (zI (-(k : Int))))] := hl
  refine lv_iload_n hx hb dX0_need_0 rfl (lv_at hl 0 rfl) ?_
  refine g_ne (tgt := 13) hx hb dX0_need_1 (by decide) (by decide) (fun h1 => ?_) (fun h1 => ?_)
  · exfalso; omega
  · refine g_new (ci := 4) hx hb hts in_X5 tyX5 tyX5_ok hown (hts _ q410) (hts _ q497) (hts _ q109) hG rfl (fs := [.null, .null, .null, .null, .null, .int (zI 0), .int (zI 0)]) rfl ⟨Nat.le_of_ble_eq_true rfl, Nat.le_of_ble_eq_true rfl⟩ dX0_need_4 (fun q9 H (hG : gW X F V ((q9, oB 4 [.null, .null, .null, .null, .null, .int (zI 0), .int (zI 0)]) :: Z) s H _) => ?_)
    refine lv_dup hx hb dX0_need_7 rfl ?_
    refine lv_iload_n hx hb dX0_need_8 rfl (lv_at hl 1 rfl) ?_
    refine g_cv (va_runI (As := [.int (zI (-(k : Int)))]) (rest := [.ref q9]) ⟨hx, hb, hml, hown, hts⟩ (metX5_init) (cwI 1 hts (lw_meth q507) rfl rfl rfl (hts _ q109) (hts _ q505) (hts _ q506) rfl (by decide +kernel) ⟨Nat.le_of_ble_eq_true rfl, Nat.le_of_ble_eq_true rfl⟩) (g_preS hG) rfl rfl hl.1 rfl (lv_room (Nat.le_of_ble_eq_true rfl)) dX0_need_9 ⟨Nat.le_of_ble_eq_true rfl, Nat.le_of_ble_eq_true rfl⟩) hG (fun F_2 V_3 ws_ H locs hp hG => ?_)
    obtain ⟨rfl, rfl, rfl⟩ := hp
    have hG : gW X F V ((q9, oB 4 [.null, .null, .null, .null, .null, .int (zI 0), .int (zI (-(k : Int)))]) :: Z) s H locs := hG
    obtain ⟨G9, hle_G9, hq9, hG⟩ := hG.freeze
    have hG : gW X G9 V (Z) s _ _ := hG
    refine vx_athrow hx hb dX0_need_12 ?_
    have hq9 : isRef G9 q9 k := hq9
    obtain ⟨ce9, hce⟩ := ex_cell hG hq9 (k := (RX5, TX5, 7)) rfl
    exact g_out hown hlocks (fun z9 hz9 => (hnt z9 hz9).elim) hG hce (⟨rfl, hle_G9, hq9, rfl, rfl⟩) ⟨Nat.le_of_ble_eq_true rfl, Nat.le_of_ble_eq_true rfl⟩

set_option maxHeartbeats 4000000 in
theorem metX0_in {l : Launch} {X : gX} {F : gF} {V : gV} {Z : va_W} {a9 b9 c9 : Int} (hr9 : (-9223372036854775808 ≤ a9 ∧ a9 < 9223372036854775808) ∧ (-9223372036854775808 ≤ b9 ∧ b9 < 9223372036854775808) ∧ -9223372036854775808 ≤ c9 ∧ c9 < 9223372036854775808) : Met l yX0_in (ws_ yX0_in cX0_in 6 (some FieldType.boolean)) ({ frames := 0, cells := 0, slots := 0, locals := 0 }) (gP X F V (Z) [.long (zL a9), .long (zL b9), .long (zL c9)]) (gQi X (fun u G U ws => u = zI (bI (decide (b9 ≤ a9 ∧ a9 ≤ c9))) ∧ F = G ∧ V = U ∧ Z = ws)) 0 0 (gA X) := by
  refine Met.g (by decide) (Nat.le_of_ble_eq_true rfl) ?_
  intro p e s m below meth c ls hx hb hr hts hown hlocks hml hin hG hl
  have hl : lv_has ls 6 [(0, .long (zL a9)), (2, .long (zL b9)), (4, .long (zL c9))] := hl
  refine lv_lload_n hx hb dX0_in_0 rfl (lv_at hl 0 rfl) ?_
  refine lv_lload_n hx hb dX0_in_1 rfl (lv_at hl 1 rfl) ?_
  refine g_lcmpz hx hb dX0_in_2 (by omega) (fun zc_1 hzc_1 => ?_)
  refine g_lt (tgt := 17) hx hb dX0_in_3 (by decide) (by omega) (fun h1 => ?_) (fun h1 => ?_)
  · refine lv_iconst (v := zI 0) hx hb dX0_in_17 (by decide +kernel) ?_
    exact g_zret hx hb hr hlocks rfl hG (⟨by rw [decide_eq_false (by omega)]; rfl, rfl, rfl, rfl⟩) ⟨Nat.le_of_ble_eq_true rfl, Nat.le_of_ble_eq_true rfl⟩ dX0_in_18
  · refine lv_lload_n hx hb dX0_in_6 rfl (lv_at hl 0 rfl) ?_
    refine lv_lload hx hb dX0_in_7 (lv_at hl 2 rfl) ?_
    refine g_lcmpz hx hb dX0_in_9 (by omega) (fun zc_2 hzc_2 => ?_)
    refine g_gt (tgt := 17) hx hb dX0_in_10 (by decide) (by omega) (fun h2 => ?_) (fun h2 => ?_)
    · refine lv_iconst (v := zI 0) hx hb dX0_in_17 (by decide +kernel) ?_
      exact g_zret hx hb hr hlocks rfl hG (⟨by rw [decide_eq_false (by omega)]; rfl, rfl, rfl, rfl⟩) ⟨Nat.le_of_ble_eq_true rfl, Nat.le_of_ble_eq_true rfl⟩ dX0_in_18
    · refine lv_iconst (v := zI 1) hx hb dX0_in_13 (by decide +kernel) ?_
      refine lv_goto (tgt := 18) hx hb dX0_in_14 (by decide) ?_
      exact g_zret hx hb hr hlocks rfl hG (⟨by rw [decide_eq_true (by omega)]; rfl, rfl, rfl, rfl⟩) ⟨Nat.le_of_ble_eq_true rfl, Nat.le_of_ble_eq_true rfl⟩ dX0_in_18

