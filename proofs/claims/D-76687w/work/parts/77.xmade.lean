set_option maxRecDepth 100000
set_option maxHeartbeats 4000000 in
theorem metX16_init_k0 {l : Launch} {X : gX} {F : gF} {V : gV} {Z : va_W} {rm on : Nat} {x1 x2 x4 x5 x6 : Int} : Met l yX16_init (ws_ yX16_init cX16_init 7 none) ({ frames := 1, cells := 0, slots := 0, locals := 20 }) (gP X F V ((rm, oB 14 [.int (zI 0), .int (zI 0), .null, .int (zI 0), .int (zI 0), .int (zI 0)]) :: Z) [.ref rm, .int (zI x1), .int (zI x2), .ref on, .int (zI x4), .int (zI x5), .int (zI x6)]) (gQv X (fun G U ws => F = G ∧ V = U ∧ ((rm, oB 14 [.int (zI x1), .int (zI x2), .ref on, .int (zI x4), .int (zI x5), .int (zI x6)]) :: Z) = ws)) 0 0 (gA X) := by
  refine Met.g (by decide) (Nat.le_of_ble_eq_true rfl) ?_
  intro p e s m below meth c ls hx hb hr hts hown hlocks hml hin hG hl
  have hl : lv_has ls 7 [(0, .ref rm), (1, .int (zI x1)), (2, .int (zI x2)), (3, .ref on), (4, .int (zI x4)), (5, .int (zI x5)), (6, .int (zI x6))] := hl
  refine lv_aload_n hx hb dX16_init_0 rfl (lv_at hl 0 rfl) ?_
  refine W.objInit hx hb hown (hts _ q2062) (hts _ q170) (hts _ q171) rfl (by rw [hml]; exact hl.1) rfl dX16_init_1 (Nat.le_of_ble_eq_true rfl) (Nat.le_of_ble_eq_true rfl) ?_
  refine W.eq (g2 := F0 m 4 ls []) rfl ?_
  refine lv_aload_n hx hb dX16_init_4 rfl (lv_at hl 0 rfl) ?_
  refine lv_iload_n hx hb dX16_init_5 rfl (lv_at hl 1 rfl) ?_
  refine g_putF (ci := 14) hx hb hts in_X16 tyX16 tyX16_ok nmX16 hown hin hG 0 rfl rfl 0 (Nat.le_of_ble_eq_true rfl) (hts _ q2063) (fun _ h9 => h9) rfl rfl (tyX16_ok 0 (Nat.le_of_ble_eq_true rfl)) rfl rfl (Nat.le_of_ble_eq_true rfl) dX16_init_6 (fun H locs (hG : gW X F V ((rm, oB 14 [.int (zI x1), .int (zI 0), .null, .int (zI 0), .int (zI 0), .int (zI 0)]) :: Z) s H locs) => ?_)
  refine lv_aload_n hx hb dX16_init_9 rfl (lv_at hl 0 rfl) ?_
  refine lv_iload_n hx hb dX16_init_10 rfl (lv_at hl 2 rfl) ?_
  refine g_putF (ci := 14) hx hb hts in_X16 tyX16 tyX16_ok nmX16 hown hin hG 0 rfl rfl 1 (Nat.le_of_ble_eq_true rfl) (hts _ q2067) (fun _ h9 => h9) rfl rfl (tyX16_ok 1 (Nat.le_of_ble_eq_true rfl)) rfl rfl (Nat.le_of_ble_eq_true rfl) dX16_init_11 (fun H locs (hG : gW X F V ((rm, oB 14 [.int (zI x1), .int (zI x2), .null, .int (zI 0), .int (zI 0), .int (zI 0)]) :: Z) s H locs) => ?_)
  refine lv_aload_n hx hb dX16_init_14 rfl (lv_at hl 0 rfl) ?_
  refine lv_aload_n hx hb dX16_init_15 rfl (lv_at hl 3 rfl) ?_
  refine g_putF (ci := 14) hx hb hts in_X16 tyX16 tyX16_ok nmX16 hown hin hG 0 rfl rfl 2 (Nat.le_of_ble_eq_true rfl) (hts _ q2080) (fun _ h9 => h9) rfl rfl (tyX16_ok 2 (Nat.le_of_ble_eq_true rfl)) rfl rfl (Nat.le_of_ble_eq_true rfl) dX16_init_16 (fun H locs (hG : gW X F V ((rm, oB 14 [.int (zI x1), .int (zI x2), .ref on, .int (zI 0), .int (zI 0), .int (zI 0)]) :: Z) s H locs) => ?_)
  refine lv_aload_n hx hb dX16_init_19 rfl (lv_at hl 0 rfl) ?_
  refine lv_iload hx hb dX16_init_20 (lv_at hl 4 rfl) ?_
  refine g_putF (ci := 14) hx hb hts in_X16 tyX16 tyX16_ok nmX16 hown hin hG 0 rfl rfl 3 (Nat.le_of_ble_eq_true rfl) (hts _ q2085) (fun _ h9 => h9) rfl rfl (tyX16_ok 3 (Nat.le_of_ble_eq_true rfl)) rfl rfl (Nat.le_of_ble_eq_true rfl) dX16_init_22 (fun H locs (hG : gW X F V ((rm, oB 14 [.int (zI x1), .int (zI x2), .ref on, .int (zI x4), .int (zI 0), .int (zI 0)]) :: Z) s H locs) => ?_)
  refine lv_aload_n hx hb dX16_init_25 rfl (lv_at hl 0 rfl) ?_
  refine lv_iload hx hb dX16_init_26 (lv_at hl 5 rfl) ?_
  refine g_putF (ci := 14) hx hb hts in_X16 tyX16 tyX16_ok nmX16 hown hin hG 0 rfl rfl 4 (Nat.le_of_ble_eq_true rfl) (hts _ q2091) (fun _ h9 => h9) rfl rfl (tyX16_ok 4 (Nat.le_of_ble_eq_true rfl)) rfl rfl (Nat.le_of_ble_eq_true rfl) dX16_init_28 (fun H locs (hG : gW X F V ((rm, oB 14 [.int (zI x1), .int (zI x2), .ref on, .int (zI x4), .int (zI x5), .int (zI 0)]) :: Z) s H locs) => ?_)
  refine lv_aload_n hx hb dX16_init_31 rfl (lv_at hl 0 rfl) ?_
  refine lv_iload hx hb dX16_init_32 (lv_at hl 6 rfl) ?_
  refine g_putF (ci := 14) hx hb hts in_X16 tyX16 tyX16_ok nmX16 hown hin hG 0 rfl rfl 5 (Nat.le_of_ble_eq_true rfl) (hts _ q2098) (fun _ h9 => h9) rfl rfl (tyX16_ok 5 (Nat.le_of_ble_eq_true rfl)) rfl rfl (Nat.le_of_ble_eq_true rfl) dX16_init_34 (fun H locs (hG : gW X F V ((rm, oB 14 [.int (zI x1), .int (zI x2), .ref on, .int (zI x4), .int (zI x5), .int (zI x6)]) :: Z) s H locs) => ?_)
  exact g_vret hx hb hr hlocks hG (⟨rfl, rfl, rfl⟩) ⟨Nat.le_of_ble_eq_true rfl, Nat.le_of_ble_eq_true rfl⟩ dX16_init_37

set_option maxHeartbeats 4000000 in
theorem metX16_init_k1 {l : Launch} {X : gX} {F : gF} {V : gV} {Z : va_W} {rm on : Nat} {x1 x2 x4 x5 x6 : Int} : Met l yX16_init (ws_ yX16_init cX16_init 7 none) ({ frames := 1, cells := 0, slots := 0, locals := 20 }) (gP X F V ((rm, oB 15 [.int (zI 0), .int (zI 0), .null, .int (zI 0), .int (zI 0), .int (zI 0)]) :: Z) [.ref rm, .int (zI x1), .int (zI x2), .ref on, .int (zI x4), .int (zI x5), .int (zI x6)]) (gQv X (fun G U ws => F = G ∧ V = U ∧ ((rm, oB 15 [.int (zI x1), .int (zI x2), .ref on, .int (zI x4), .int (zI x5), .int (zI x6)]) :: Z) = ws)) 0 0 (gA X) := by
  refine Met.g (by decide) (Nat.le_of_ble_eq_true rfl) ?_
  intro p e s m below meth c ls hx hb hr hts hown hlocks hml hin hG hl
  have hl : lv_has ls 7 [(0, .ref rm), (1, .int (zI x1)), (2, .int (zI x2)), (3, .ref on), (4, .int (zI x4)), (5, .int (zI x5)), (6, .int (zI x6))] := hl
  refine lv_aload_n hx hb dX16_init_0 rfl (lv_at hl 0 rfl) ?_
  refine W.objInit hx hb hown (hts _ q2062) (hts _ q170) (hts _ q171) rfl (by rw [hml]; exact hl.1) rfl dX16_init_1 (Nat.le_of_ble_eq_true rfl) (Nat.le_of_ble_eq_true rfl) ?_
  refine W.eq (g2 := F0 m 4 ls []) rfl ?_
  refine lv_aload_n hx hb dX16_init_4 rfl (lv_at hl 0 rfl) ?_
  refine lv_iload_n hx hb dX16_init_5 rfl (lv_at hl 1 rfl) ?_
  refine g_putF (ci := 15) hx hb hts in_X17 tyX17 tyX17_ok nmX17 hown hin hG 0 rfl rfl 0 (Nat.le_of_ble_eq_true rfl) (hts _ q2063) (fun _ h9 => h9) rfl rfl (tyX17_ok 0 (Nat.le_of_ble_eq_true rfl)) rfl rfl (Nat.le_of_ble_eq_true rfl) dX16_init_6 (fun H locs (hG : gW X F V ((rm, oB 15 [.int (zI x1), .int (zI 0), .null, .int (zI 0), .int (zI 0), .int (zI 0)]) :: Z) s H locs) => ?_)
  refine lv_aload_n hx hb dX16_init_9 rfl (lv_at hl 0 rfl) ?_
  refine lv_iload_n hx hb dX16_init_10 rfl (lv_at hl 2 rfl) ?_
  refine g_putF (ci := 15) hx hb hts in_X17 tyX17 tyX17_ok nmX17 hown hin hG 0 rfl rfl 1 (Nat.le_of_ble_eq_true rfl) (hts _ q2067) (fun _ h9 => h9) rfl rfl (tyX17_ok 1 (Nat.le_of_ble_eq_true rfl)) rfl rfl (Nat.le_of_ble_eq_true rfl) dX16_init_11 (fun H locs (hG : gW X F V ((rm, oB 15 [.int (zI x1), .int (zI x2), .null, .int (zI 0), .int (zI 0), .int (zI 0)]) :: Z) s H locs) => ?_)
  refine lv_aload_n hx hb dX16_init_14 rfl (lv_at hl 0 rfl) ?_
  refine lv_aload_n hx hb dX16_init_15 rfl (lv_at hl 3 rfl) ?_
  refine g_putF (ci := 15) hx hb hts in_X17 tyX17 tyX17_ok nmX17 hown hin hG 0 rfl rfl 2 (Nat.le_of_ble_eq_true rfl) (hts _ q2080) (fun _ h9 => h9) rfl rfl (tyX17_ok 2 (Nat.le_of_ble_eq_true rfl)) rfl rfl (Nat.le_of_ble_eq_true rfl) dX16_init_16 (fun H locs (hG : gW X F V ((rm, oB 15 [.int (zI x1), .int (zI x2), .ref on, .int (zI 0), .int (zI 0), .int (zI 0)]) :: Z) s H locs) => ?_)
  refine lv_aload_n hx hb dX16_init_19 rfl (lv_at hl 0 rfl) ?_
  refine lv_iload hx hb dX16_init_20 (lv_at hl 4 rfl) ?_
  refine g_putF (ci := 15) hx hb hts in_X17 tyX17 tyX17_ok nmX17 hown hin hG 0 rfl rfl 3 (Nat.le_of_ble_eq_true rfl) (hts _ q2085) (fun _ h9 => h9) rfl rfl (tyX17_ok 3 (Nat.le_of_ble_eq_true rfl)) rfl rfl (Nat.le_of_ble_eq_true rfl) dX16_init_22 (fun H locs (hG : gW X F V ((rm, oB 15 [.int (zI x1), .int (zI x2), .ref on, .int (zI x4), .int (zI 0), .int (zI 0)]) :: Z) s H locs) => ?_)
  refine lv_aload_n hx hb dX16_init_25 rfl (lv_at hl 0 rfl) ?_
  refine lv_iload hx hb dX16_init_26 (lv_at hl 5 rfl) ?_
  refine g_putF (ci := 15) hx hb hts in_X17 tyX17 tyX17_ok nmX17 hown hin hG 0 rfl rfl 4 (Nat.le_of_ble_eq_true rfl) (hts _ q2091) (fun _ h9 => h9) rfl rfl (tyX17_ok 4 (Nat.le_of_ble_eq_true rfl)) rfl rfl (Nat.le_of_ble_eq_true rfl) dX16_init_28 (fun H locs (hG : gW X F V ((rm, oB 15 [.int (zI x1), .int (zI x2), .ref on, .int (zI x4), .int (zI x5), .int (zI 0)]) :: Z) s H locs) => ?_)
  refine lv_aload_n hx hb dX16_init_31 rfl (lv_at hl 0 rfl) ?_
  refine lv_iload hx hb dX16_init_32 (lv_at hl 6 rfl) ?_
  refine g_putF (ci := 15) hx hb hts in_X17 tyX17 tyX17_ok nmX17 hown hin hG 0 rfl rfl 5 (Nat.le_of_ble_eq_true rfl) (hts _ q2098) (fun _ h9 => h9) rfl rfl (tyX17_ok 5 (Nat.le_of_ble_eq_true rfl)) rfl rfl (Nat.le_of_ble_eq_true rfl) dX16_init_34 (fun H locs (hG : gW X F V ((rm, oB 15 [.int (zI x1), .int (zI x2), .ref on, .int (zI x4), .int (zI x5), .int (zI x6)]) :: Z) s H locs) => ?_)
  exact g_vret hx hb hr hlocks hG (⟨rfl, rfl, rfl⟩) ⟨Nat.le_of_ble_eq_true rfl, Nat.le_of_ble_eq_true rfl⟩ dX16_init_37

set_option maxHeartbeats 4000000 in
theorem metX17_init_k1 {l : Launch} {X : gX} {F : gF} {V : gV} {Z : va_W} {rm on : Nat} {x1 x2 x4 x5 x6 : Int} : Met l yX17_init (ws_ yX17_init cX17_init 7 none) ({ frames := 2, cells := 0, slots := 0, locals := 46 }) (gP X F V ((rm, oB 15 [.int (zI 0), .int (zI 0), .null, .int (zI 0), .int (zI 0), .int (zI 0)]) :: Z) [.ref rm, .int (zI x1), .int (zI x2), .ref on, .int (zI x4), .int (zI x5), .int (zI x6)]) (gQv X (fun G U ws => F = G ∧ V = U ∧ ((rm, oB 15 [.int (zI x1), .int (zI x2), .ref on, .int (zI x4), .int (zI x5), .int (zI x6)]) :: Z) = ws)) 0 0 (gA X) := by
  refine Met.g (by decide) (Nat.le_of_ble_eq_true rfl) ?_
  intro p e s m below meth c ls hx hb hr hts hown hlocks hml hin hG hl
  have hl : lv_has ls 7 [(0, .ref rm), (1, .int (zI x1)), (2, .int (zI x2)), (3, .ref on), (4, .int (zI x4)), (5, .int (zI x5)), (6, .int (zI x6))] := hl
  refine lv_aload_n hx hb dX17_init_0 rfl (lv_at hl 0 rfl) ?_
  refine lv_iload_n hx hb dX17_init_1 rfl (lv_at hl 1 rfl) ?_
  refine lv_iload_n hx hb dX17_init_2 rfl (lv_at hl 2 rfl) ?_
  refine lv_aload_n hx hb dX17_init_3 rfl (lv_at hl 3 rfl) ?_
  refine lv_iload hx hb dX17_init_4 (lv_at hl 4 rfl) ?_
  refine lv_iload hx hb dX17_init_6 (lv_at hl 5 rfl) ?_
  refine lv_iload hx hb dX17_init_8 (lv_at hl 6 rfl) ?_
  refine g_cv (va_runI (As := [.int (zI x1), .int (zI x2), .ref on, .int (zI x4), .int (zI x5), .int (zI x6)]) (rest := []) ⟨hx, hb, hml, hown, hts⟩ (metX16_init_k1) (cwI 6 hts (lw_meth q2061) rfl rfl rfl (hts _ q145) (hts _ q2059) (hts _ q2060) rfl (by decide +kernel) ⟨Nat.le_of_ble_eq_true rfl, Nat.le_of_ble_eq_true rfl⟩) (g_preS hG) rfl rfl hl.1 rfl (lv_room (Nat.le_of_ble_eq_true rfl)) dX17_init_10 ⟨Nat.le_of_ble_eq_true rfl, Nat.le_of_ble_eq_true rfl⟩) hG (fun F_2 V_3 ws_ H locs hp hG => ?_)
  obtain ⟨rfl, rfl, rfl⟩ := hp
  have hG : gW X F V ((rm, oB 15 [.int (zI x1), .int (zI x2), .ref on, .int (zI x4), .int (zI x5), .int (zI x6)]) :: Z) s H locs := hG
  exact g_vret hx hb hr hlocks hG (⟨rfl, rfl, rfl⟩) ⟨Nat.le_of_ble_eq_true rfl, Nat.le_of_ble_eq_true rfl⟩ dX17_init_13

set_option maxHeartbeats 4000000 in
theorem metX16_init_k2 {l : Launch} {X : gX} {F : gF} {V : gV} {Z : va_W} {rm on : Nat} {x1 x2 x4 x5 x6 : Int} : Met l yX16_init (ws_ yX16_init cX16_init 7 none) ({ frames := 1, cells := 0, slots := 0, locals := 20 }) (gP X F V ((rm, oB 16 [.int (zI 0), .int (zI 0), .null, .int (zI 0), .int (zI 0), .int (zI 0)]) :: Z) [.ref rm, .int (zI x1), .int (zI x2), .ref on, .int (zI x4), .int (zI x5), .int (zI x6)]) (gQv X (fun G U ws => F = G ∧ V = U ∧ ((rm, oB 16 [.int (zI x1), .int (zI x2), .ref on, .int (zI x4), .int (zI x5), .int (zI x6)]) :: Z) = ws)) 0 0 (gA X) := by
  refine Met.g (by decide) (Nat.le_of_ble_eq_true rfl) ?_
  intro p e s m below meth c ls hx hb hr hts hown hlocks hml hin hG hl
  have hl : lv_has ls 7 [(0, .ref rm), (1, .int (zI x1)), (2, .int (zI x2)), (3, .ref on), (4, .int (zI x4)), (5, .int (zI x5)), (6, .int (zI x6))] := hl
  refine lv_aload_n hx hb dX16_init_0 rfl (lv_at hl 0 rfl) ?_
  refine W.objInit hx hb hown (hts _ q2062) (hts _ q170) (hts _ q171) rfl (by rw [hml]; exact hl.1) rfl dX16_init_1 (Nat.le_of_ble_eq_true rfl) (Nat.le_of_ble_eq_true rfl) ?_
  refine W.eq (g2 := F0 m 4 ls []) rfl ?_
  refine lv_aload_n hx hb dX16_init_4 rfl (lv_at hl 0 rfl) ?_
  refine lv_iload_n hx hb dX16_init_5 rfl (lv_at hl 1 rfl) ?_
  refine g_putF (ci := 16) hx hb hts in_X18 tyX18 tyX18_ok nmX18 hown hin hG 0 rfl rfl 0 (Nat.le_of_ble_eq_true rfl) (hts _ q2063) (fun _ h9 => h9) rfl rfl (tyX18_ok 0 (Nat.le_of_ble_eq_true rfl)) rfl rfl (Nat.le_of_ble_eq_true rfl) dX16_init_6 (fun H locs (hG : gW X F V ((rm, oB 16 [.int (zI x1), .int (zI 0), .null, .int (zI 0), .int (zI 0), .int (zI 0)]) :: Z) s H locs) => ?_)
  refine lv_aload_n hx hb dX16_init_9 rfl (lv_at hl 0 rfl) ?_
  refine lv_iload_n hx hb dX16_init_10 rfl (lv_at hl 2 rfl) ?_
  refine g_putF (ci := 16) hx hb hts in_X18 tyX18 tyX18_ok nmX18 hown hin hG 0 rfl rfl 1 (Nat.le_of_ble_eq_true rfl) (hts _ q2067) (fun _ h9 => h9) rfl rfl (tyX18_ok 1 (Nat.le_of_ble_eq_true rfl)) rfl rfl (Nat.le_of_ble_eq_true rfl) dX16_init_11 (fun H locs (hG : gW X F V ((rm, oB 16 [.int (zI x1), .int (zI x2), .null, .int (zI 0), .int (zI 0), .int (zI 0)]) :: Z) s H locs) => ?_)
  refine lv_aload_n hx hb dX16_init_14 rfl (lv_at hl 0 rfl) ?_
  refine lv_aload_n hx hb dX16_init_15 rfl (lv_at hl 3 rfl) ?_
  refine g_putF (ci := 16) hx hb hts in_X18 tyX18 tyX18_ok nmX18 hown hin hG 0 rfl rfl 2 (Nat.le_of_ble_eq_true rfl) (hts _ q2080) (fun _ h9 => h9) rfl rfl (tyX18_ok 2 (Nat.le_of_ble_eq_true rfl)) rfl rfl (Nat.le_of_ble_eq_true rfl) dX16_init_16 (fun H locs (hG : gW X F V ((rm, oB 16 [.int (zI x1), .int (zI x2), .ref on, .int (zI 0), .int (zI 0), .int (zI 0)]) :: Z) s H locs) => ?_)
  refine lv_aload_n hx hb dX16_init_19 rfl (lv_at hl 0 rfl) ?_
  refine lv_iload hx hb dX16_init_20 (lv_at hl 4 rfl) ?_
  refine g_putF (ci := 16) hx hb hts in_X18 tyX18 tyX18_ok nmX18 hown hin hG 0 rfl rfl 3 (Nat.le_of_ble_eq_true rfl) (hts _ q2085) (fun _ h9 => h9) rfl rfl (tyX18_ok 3 (Nat.le_of_ble_eq_true rfl)) rfl rfl (Nat.le_of_ble_eq_true rfl) dX16_init_22 (fun H locs (hG : gW X F V ((rm, oB 16 [.int (zI x1), .int (zI x2), .ref on, .int (zI x4), .int (zI 0), .int (zI 0)]) :: Z) s H locs) => ?_)
  refine lv_aload_n hx hb dX16_init_25 rfl (lv_at hl 0 rfl) ?_
  refine lv_iload hx hb dX16_init_26 (lv_at hl 5 rfl) ?_
  refine g_putF (ci := 16) hx hb hts in_X18 tyX18 tyX18_ok nmX18 hown hin hG 0 rfl rfl 4 (Nat.le_of_ble_eq_true rfl) (hts _ q2091) (fun _ h9 => h9) rfl rfl (tyX18_ok 4 (Nat.le_of_ble_eq_true rfl)) rfl rfl (Nat.le_of_ble_eq_true rfl) dX16_init_28 (fun H locs (hG : gW X F V ((rm, oB 16 [.int (zI x1), .int (zI x2), .ref on, .int (zI x4), .int (zI x5), .int (zI 0)]) :: Z) s H locs) => ?_)
  refine lv_aload_n hx hb dX16_init_31 rfl (lv_at hl 0 rfl) ?_
  refine lv_iload hx hb dX16_init_32 (lv_at hl 6 rfl) ?_
  refine g_putF (ci := 16) hx hb hts in_X18 tyX18 tyX18_ok nmX18 hown hin hG 0 rfl rfl 5 (Nat.le_of_ble_eq_true rfl) (hts _ q2098) (fun _ h9 => h9) rfl rfl (tyX18_ok 5 (Nat.le_of_ble_eq_true rfl)) rfl rfl (Nat.le_of_ble_eq_true rfl) dX16_init_34 (fun H locs (hG : gW X F V ((rm, oB 16 [.int (zI x1), .int (zI x2), .ref on, .int (zI x4), .int (zI x5), .int (zI x6)]) :: Z) s H locs) => ?_)
  exact g_vret hx hb hr hlocks hG (⟨rfl, rfl, rfl⟩) ⟨Nat.le_of_ble_eq_true rfl, Nat.le_of_ble_eq_true rfl⟩ dX16_init_37

set_option maxHeartbeats 4000000 in
theorem metX18_init_k2 {l : Launch} {X : gX} {F : gF} {V : gV} {Z : va_W} {rm on : Nat} {x1 x2 x4 x5 x6 : Int} : Met l yX18_init (ws_ yX18_init cX18_init 7 none) ({ frames := 2, cells := 0, slots := 0, locals := 46 }) (gP X F V ((rm, oB 16 [.int (zI 0), .int (zI 0), .null, .int (zI 0), .int (zI 0), .int (zI 0)]) :: Z) [.ref rm, .int (zI x1), .int (zI x2), .ref on, .int (zI x4), .int (zI x5), .int (zI x6)]) (gQv X (fun G U ws => F = G ∧ V = U ∧ ((rm, oB 16 [.int (zI x1), .int (zI x2), .ref on, .int (zI x4), .int (zI x5), .int (zI x6)]) :: Z) = ws)) 0 0 (gA X) := by
  refine Met.g (by decide) (Nat.le_of_ble_eq_true rfl) ?_
  intro p e s m below meth c ls hx hb hr hts hown hlocks hml hin hG hl
  have hl : lv_has ls 7 [(0, .ref rm), (1, .int (zI x1)), (2, .int (zI x2)), (3, .ref on), (4, .int (zI x4)), (5, .int (zI x5)), (6, .int (zI x6))] := hl
  refine lv_aload_n hx hb dX18_init_0 rfl (lv_at hl 0 rfl) ?_
  refine lv_iload_n hx hb dX18_init_1 rfl (lv_at hl 1 rfl) ?_
  refine lv_iload_n hx hb dX18_init_2 rfl (lv_at hl 2 rfl) ?_
  refine lv_aload_n hx hb dX18_init_3 rfl (lv_at hl 3 rfl) ?_
  refine lv_iload hx hb dX18_init_4 (lv_at hl 4 rfl) ?_
  refine lv_iload hx hb dX18_init_6 (lv_at hl 5 rfl) ?_
  refine lv_iload hx hb dX18_init_8 (lv_at hl 6 rfl) ?_
  refine g_cv (va_runI (As := [.int (zI x1), .int (zI x2), .ref on, .int (zI x4), .int (zI x5), .int (zI x6)]) (rest := []) ⟨hx, hb, hml, hown, hts⟩ (metX16_init_k2) (cwI 6 hts (lw_meth q2061) rfl rfl rfl (hts _ q145) (hts _ q2119) (hts _ q2060) rfl (by decide +kernel) ⟨Nat.le_of_ble_eq_true rfl, Nat.le_of_ble_eq_true rfl⟩) (g_preS hG) rfl rfl hl.1 rfl (lv_room (Nat.le_of_ble_eq_true rfl)) dX18_init_10 ⟨Nat.le_of_ble_eq_true rfl, Nat.le_of_ble_eq_true rfl⟩) hG (fun F_2 V_3 ws_ H locs hp hG => ?_)
  obtain ⟨rfl, rfl, rfl⟩ := hp
  have hG : gW X F V ((rm, oB 16 [.int (zI x1), .int (zI x2), .ref on, .int (zI x4), .int (zI x5), .int (zI x6)]) :: Z) s H locs := hG
  exact g_vret hx hb hr hlocks hG (⟨rfl, rfl, rfl⟩) ⟨Nat.le_of_ble_eq_true rfl, Nat.le_of_ble_eq_true rfl⟩ dX18_init_13

set_option maxHeartbeats 4000000 in
theorem metX16_init_k3 {l : Launch} {X : gX} {F : gF} {V : gV} {Z : va_W} {rm on : Nat} {x1 x2 x4 x5 x6 : Int} : Met l yX16_init (ws_ yX16_init cX16_init 7 none) ({ frames := 1, cells := 0, slots := 0, locals := 20 }) (gP X F V ((rm, oB 17 [.int (zI 0), .int (zI 0), .null, .int (zI 0), .int (zI 0), .int (zI 0)]) :: Z) [.ref rm, .int (zI x1), .int (zI x2), .ref on, .int (zI x4), .int (zI x5), .int (zI x6)]) (gQv X (fun G U ws => F = G ∧ V = U ∧ ((rm, oB 17 [.int (zI x1), .int (zI x2), .ref on, .int (zI x4), .int (zI x5), .int (zI x6)]) :: Z) = ws)) 0 0 (gA X) := by
  refine Met.g (by decide) (Nat.le_of_ble_eq_true rfl) ?_
  intro p e s m below meth c ls hx hb hr hts hown hlocks hml hin hG hl
  have hl : lv_has ls 7 [(0, .ref rm), (1, .int (zI x1)), (2, .int (zI x2)), (3, .ref on), (4, .int (zI x4)), (5, .int (zI x5)), (6, .int (zI x6))] := hl
  refine lv_aload_n hx hb dX16_init_0 rfl (lv_at hl 0 rfl) ?_
  refine W.objInit hx hb hown (hts _ q2062) (hts _ q170) (hts _ q171) rfl (by rw [hml]; exact hl.1) rfl dX16_init_1 (Nat.le_of_ble_eq_true rfl) (Nat.le_of_ble_eq_true rfl) ?_
  refine W.eq (g2 := F0 m 4 ls []) rfl ?_
  refine lv_aload_n hx hb dX16_init_4 rfl (lv_at hl 0 rfl) ?_
  refine lv_iload_n hx hb dX16_init_5 rfl (lv_at hl 1 rfl) ?_
  refine g_putF (ci := 17) hx hb hts in_X19 tyX19 tyX19_ok nmX19 hown hin hG 0 rfl rfl 0 (Nat.le_of_ble_eq_true rfl) (hts _ q2063) (fun _ h9 => h9) rfl rfl (tyX19_ok 0 (Nat.le_of_ble_eq_true rfl)) rfl rfl (Nat.le_of_ble_eq_true rfl) dX16_init_6 (fun H locs (hG : gW X F V ((rm, oB 17 [.int (zI x1), .int (zI 0), .null, .int (zI 0), .int (zI 0), .int (zI 0)]) :: Z) s H locs) => ?_)
  refine lv_aload_n hx hb dX16_init_9 rfl (lv_at hl 0 rfl) ?_
  refine lv_iload_n hx hb dX16_init_10 rfl (lv_at hl 2 rfl) ?_
  refine g_putF (ci := 17) hx hb hts in_X19 tyX19 tyX19_ok nmX19 hown hin hG 0 rfl rfl 1 (Nat.le_of_ble_eq_true rfl) (hts _ q2067) (fun _ h9 => h9) rfl rfl (tyX19_ok 1 (Nat.le_of_ble_eq_true rfl)) rfl rfl (Nat.le_of_ble_eq_true rfl) dX16_init_11 (fun H locs (hG : gW X F V ((rm, oB 17 [.int (zI x1), .int (zI x2), .null, .int (zI 0), .int (zI 0), .int (zI 0)]) :: Z) s H locs) => ?_)
  refine lv_aload_n hx hb dX16_init_14 rfl (lv_at hl 0 rfl) ?_
  refine lv_aload_n hx hb dX16_init_15 rfl (lv_at hl 3 rfl) ?_
  refine g_putF (ci := 17) hx hb hts in_X19 tyX19 tyX19_ok nmX19 hown hin hG 0 rfl rfl 2 (Nat.le_of_ble_eq_true rfl) (hts _ q2080) (fun _ h9 => h9) rfl rfl (tyX19_ok 2 (Nat.le_of_ble_eq_true rfl)) rfl rfl (Nat.le_of_ble_eq_true rfl) dX16_init_16 (fun H locs (hG : gW X F V ((rm, oB 17 [.int (zI x1), .int (zI x2), .ref on, .int (zI 0), .int (zI 0), .int (zI 0)]) :: Z) s H locs) => ?_)
  refine lv_aload_n hx hb dX16_init_19 rfl (lv_at hl 0 rfl) ?_
  refine lv_iload hx hb dX16_init_20 (lv_at hl 4 rfl) ?_
  refine g_putF (ci := 17) hx hb hts in_X19 tyX19 tyX19_ok nmX19 hown hin hG 0 rfl rfl 3 (Nat.le_of_ble_eq_true rfl) (hts _ q2085) (fun _ h9 => h9) rfl rfl (tyX19_ok 3 (Nat.le_of_ble_eq_true rfl)) rfl rfl (Nat.le_of_ble_eq_true rfl) dX16_init_22 (fun H locs (hG : gW X F V ((rm, oB 17 [.int (zI x1), .int (zI x2), .ref on, .int (zI x4), .int (zI 0), .int (zI 0)]) :: Z) s H locs) => ?_)
  refine lv_aload_n hx hb dX16_init_25 rfl (lv_at hl 0 rfl) ?_
  refine lv_iload hx hb dX16_init_26 (lv_at hl 5 rfl) ?_
  refine g_putF (ci := 17) hx hb hts in_X19 tyX19 tyX19_ok nmX19 hown hin hG 0 rfl rfl 4 (Nat.le_of_ble_eq_true rfl) (hts _ q2091) (fun _ h9 => h9) rfl rfl (tyX19_ok 4 (Nat.le_of_ble_eq_true rfl)) rfl rfl (Nat.le_of_ble_eq_true rfl) dX16_init_28 (fun H locs (hG : gW X F V ((rm, oB 17 [.int (zI x1), .int (zI x2), .ref on, .int (zI x4), .int (zI x5), .int (zI 0)]) :: Z) s H locs) => ?_)
  refine lv_aload_n hx hb dX16_init_31 rfl (lv_at hl 0 rfl) ?_
  refine lv_iload hx hb dX16_init_32 (lv_at hl 6 rfl) ?_
  refine g_putF (ci := 17) hx hb hts in_X19 tyX19 tyX19_ok nmX19 hown hin hG 0 rfl rfl 5 (Nat.le_of_ble_eq_true rfl) (hts _ q2098) (fun _ h9 => h9) rfl rfl (tyX19_ok 5 (Nat.le_of_ble_eq_true rfl)) rfl rfl (Nat.le_of_ble_eq_true rfl) dX16_init_34 (fun H locs (hG : gW X F V ((rm, oB 17 [.int (zI x1), .int (zI x2), .ref on, .int (zI x4), .int (zI x5), .int (zI x6)]) :: Z) s H locs) => ?_)
  exact g_vret hx hb hr hlocks hG (⟨rfl, rfl, rfl⟩) ⟨Nat.le_of_ble_eq_true rfl, Nat.le_of_ble_eq_true rfl⟩ dX16_init_37

set_option maxHeartbeats 4000000 in
theorem metX17_init_k3 {l : Launch} {X : gX} {F : gF} {V : gV} {Z : va_W} {rm on : Nat} {x1 x2 x4 x5 x6 : Int} : Met l yX17_init (ws_ yX17_init cX17_init 7 none) ({ frames := 2, cells := 0, slots := 0, locals := 46 }) (gP X F V ((rm, oB 17 [.int (zI 0), .int (zI 0), .null, .int (zI 0), .int (zI 0), .int (zI 0)]) :: Z) [.ref rm, .int (zI x1), .int (zI x2), .ref on, .int (zI x4), .int (zI x5), .int (zI x6)]) (gQv X (fun G U ws => F = G ∧ V = U ∧ ((rm, oB 17 [.int (zI x1), .int (zI x2), .ref on, .int (zI x4), .int (zI x5), .int (zI x6)]) :: Z) = ws)) 0 0 (gA X) := by
  refine Met.g (by decide) (Nat.le_of_ble_eq_true rfl) ?_
  intro p e s m below meth c ls hx hb hr hts hown hlocks hml hin hG hl
  have hl : lv_has ls 7 [(0, .ref rm), (1, .int (zI x1)), (2, .int (zI x2)), (3, .ref on), (4, .int (zI x4)), (5, .int (zI x5)), (6, .int (zI x6))] := hl
  refine lv_aload_n hx hb dX17_init_0 rfl (lv_at hl 0 rfl) ?_
  refine lv_iload_n hx hb dX17_init_1 rfl (lv_at hl 1 rfl) ?_
  refine lv_iload_n hx hb dX17_init_2 rfl (lv_at hl 2 rfl) ?_
  refine lv_aload_n hx hb dX17_init_3 rfl (lv_at hl 3 rfl) ?_
  refine lv_iload hx hb dX17_init_4 (lv_at hl 4 rfl) ?_
  refine lv_iload hx hb dX17_init_6 (lv_at hl 5 rfl) ?_
  refine lv_iload hx hb dX17_init_8 (lv_at hl 6 rfl) ?_
  refine g_cv (va_runI (As := [.int (zI x1), .int (zI x2), .ref on, .int (zI x4), .int (zI x5), .int (zI x6)]) (rest := []) ⟨hx, hb, hml, hown, hts⟩ (metX16_init_k3) (cwI 6 hts (lw_meth q2061) rfl rfl rfl (hts _ q145) (hts _ q2059) (hts _ q2060) rfl (by decide +kernel) ⟨Nat.le_of_ble_eq_true rfl, Nat.le_of_ble_eq_true rfl⟩) (g_preS hG) rfl rfl hl.1 rfl (lv_room (Nat.le_of_ble_eq_true rfl)) dX17_init_10 ⟨Nat.le_of_ble_eq_true rfl, Nat.le_of_ble_eq_true rfl⟩) hG (fun F_2 V_3 ws_ H locs hp hG => ?_)
  obtain ⟨rfl, rfl, rfl⟩ := hp
  have hG : gW X F V ((rm, oB 17 [.int (zI x1), .int (zI x2), .ref on, .int (zI x4), .int (zI x5), .int (zI x6)]) :: Z) s H locs := hG
  exact g_vret hx hb hr hlocks hG (⟨rfl, rfl, rfl⟩) ⟨Nat.le_of_ble_eq_true rfl, Nat.le_of_ble_eq_true rfl⟩ dX17_init_13

set_option maxHeartbeats 4000000 in
theorem metX19_init_k3 {l : Launch} {X : gX} {F : gF} {V : gV} {Z : va_W} {rm on : Nat} {x1 x2 x4 x5 x6 : Int} : Met l yX19_init (ws_ yX19_init cX19_init 7 none) ({ frames := 3, cells := 0, slots := 0, locals := 72 }) (gP X F V ((rm, oB 17 [.int (zI 0), .int (zI 0), .null, .int (zI 0), .int (zI 0), .int (zI 0)]) :: Z) [.ref rm, .int (zI x1), .int (zI x2), .ref on, .int (zI x4), .int (zI x5), .int (zI x6)]) (gQv X (fun G U ws => F = G ∧ V = U ∧ ((rm, oB 17 [.int (zI x1), .int (zI x2), .ref on, .int (zI x4), .int (zI x5), .int (zI x6)]) :: Z) = ws)) 0 0 (gA X) := by
  refine Met.g (by decide) (Nat.le_of_ble_eq_true rfl) ?_
  intro p e s m below meth c ls hx hb hr hts hown hlocks hml hin hG hl
  have hl : lv_has ls 7 [(0, .ref rm), (1, .int (zI x1)), (2, .int (zI x2)), (3, .ref on), (4, .int (zI x4)), (5, .int (zI x5)), (6, .int (zI x6))] := hl
  refine lv_aload_n hx hb dX19_init_0 rfl (lv_at hl 0 rfl) ?_
  refine lv_iload_n hx hb dX19_init_1 rfl (lv_at hl 1 rfl) ?_
  refine lv_iload_n hx hb dX19_init_2 rfl (lv_at hl 2 rfl) ?_
  refine lv_aload_n hx hb dX19_init_3 rfl (lv_at hl 3 rfl) ?_
  refine lv_iload hx hb dX19_init_4 (lv_at hl 4 rfl) ?_
  refine lv_iload hx hb dX19_init_6 (lv_at hl 5 rfl) ?_
  refine lv_iload hx hb dX19_init_8 (lv_at hl 6 rfl) ?_
  refine g_cv (va_runI (As := [.int (zI x1), .int (zI x2), .ref on, .int (zI x4), .int (zI x5), .int (zI x6)]) (rest := []) ⟨hx, hb, hml, hown, hts⟩ (metX17_init_k3) (cwI 6 hts (lw_meth q2058) rfl rfl rfl (hts _ q146) (hts _ q2132) (hts _ q2057) rfl (by decide +kernel) ⟨Nat.le_of_ble_eq_true rfl, Nat.le_of_ble_eq_true rfl⟩) (g_preS hG) rfl rfl hl.1 rfl (lv_room (Nat.le_of_ble_eq_true rfl)) dX19_init_10 ⟨Nat.le_of_ble_eq_true rfl, Nat.le_of_ble_eq_true rfl⟩) hG (fun F_2 V_3 ws_ H locs hp hG => ?_)
  obtain ⟨rfl, rfl, rfl⟩ := hp
  have hG : gW X F V ((rm, oB 17 [.int (zI x1), .int (zI x2), .ref on, .int (zI x4), .int (zI x5), .int (zI x6)]) :: Z) s H locs := hG
  exact g_vret hx hb hr hlocks hG (⟨rfl, rfl, rfl⟩) ⟨Nat.le_of_ble_eq_true rfl, Nat.le_of_ble_eq_true rfl⟩ dX19_init_13

set_option maxHeartbeats 4000000 in
theorem metX16_init_k4 {l : Launch} {X : gX} {F : gF} {V : gV} {Z : va_W} {rm on : Nat} {x1 x2 x4 x5 x6 : Int} : Met l yX16_init (ws_ yX16_init cX16_init 7 none) ({ frames := 1, cells := 0, slots := 0, locals := 20 }) (gP X F V ((rm, oB 18 [.int (zI 0), .int (zI 0), .null, .int (zI 0), .int (zI 0), .int (zI 0)]) :: Z) [.ref rm, .int (zI x1), .int (zI x2), .ref on, .int (zI x4), .int (zI x5), .int (zI x6)]) (gQv X (fun G U ws => F = G ∧ V = U ∧ ((rm, oB 18 [.int (zI x1), .int (zI x2), .ref on, .int (zI x4), .int (zI x5), .int (zI x6)]) :: Z) = ws)) 0 0 (gA X) := by
  refine Met.g (by decide) (Nat.le_of_ble_eq_true rfl) ?_
  intro p e s m below meth c ls hx hb hr hts hown hlocks hml hin hG hl
  have hl : lv_has ls 7 [(0, .ref rm), (1, .int (zI x1)), (2, .int (zI x2)), (3, .ref on), (4, .int (zI x4)), (5, .int (zI x5)), (6, .int (zI x6))] := hl
  refine lv_aload_n hx hb dX16_init_0 rfl (lv_at hl 0 rfl) ?_
  refine W.objInit hx hb hown (hts _ q2062) (hts _ q170) (hts _ q171) rfl (by rw [hml]; exact hl.1) rfl dX16_init_1 (Nat.le_of_ble_eq_true rfl) (Nat.le_of_ble_eq_true rfl) ?_
  refine W.eq (g2 := F0 m 4 ls []) rfl ?_
  refine lv_aload_n hx hb dX16_init_4 rfl (lv_at hl 0 rfl) ?_
  refine lv_iload_n hx hb dX16_init_5 rfl (lv_at hl 1 rfl) ?_
  refine g_putF (ci := 18) hx hb hts in_X20 tyX20 tyX20_ok nmX20 hown hin hG 0 rfl rfl 0 (Nat.le_of_ble_eq_true rfl) (hts _ q2063) (fun _ h9 => h9) rfl rfl (tyX20_ok 0 (Nat.le_of_ble_eq_true rfl)) rfl rfl (Nat.le_of_ble_eq_true rfl) dX16_init_6 (fun H locs (hG : gW X F V ((rm, oB 18 [.int (zI x1), .int (zI 0), .null, .int (zI 0), .int (zI 0), .int (zI 0)]) :: Z) s H locs) => ?_)
  refine lv_aload_n hx hb dX16_init_9 rfl (lv_at hl 0 rfl) ?_
  refine lv_iload_n hx hb dX16_init_10 rfl (lv_at hl 2 rfl) ?_
  refine g_putF (ci := 18) hx hb hts in_X20 tyX20 tyX20_ok nmX20 hown hin hG 0 rfl rfl 1 (Nat.le_of_ble_eq_true rfl) (hts _ q2067) (fun _ h9 => h9) rfl rfl (tyX20_ok 1 (Nat.le_of_ble_eq_true rfl)) rfl rfl (Nat.le_of_ble_eq_true rfl) dX16_init_11 (fun H locs (hG : gW X F V ((rm, oB 18 [.int (zI x1), .int (zI x2), .null, .int (zI 0), .int (zI 0), .int (zI 0)]) :: Z) s H locs) => ?_)
  refine lv_aload_n hx hb dX16_init_14 rfl (lv_at hl 0 rfl) ?_
  refine lv_aload_n hx hb dX16_init_15 rfl (lv_at hl 3 rfl) ?_
  refine g_putF (ci := 18) hx hb hts in_X20 tyX20 tyX20_ok nmX20 hown hin hG 0 rfl rfl 2 (Nat.le_of_ble_eq_true rfl) (hts _ q2080) (fun _ h9 => h9) rfl rfl (tyX20_ok 2 (Nat.le_of_ble_eq_true rfl)) rfl rfl (Nat.le_of_ble_eq_true rfl) dX16_init_16 (fun H locs (hG : gW X F V ((rm, oB 18 [.int (zI x1), .int (zI x2), .ref on, .int (zI 0), .int (zI 0), .int (zI 0)]) :: Z) s H locs) => ?_)
  refine lv_aload_n hx hb dX16_init_19 rfl (lv_at hl 0 rfl) ?_
  refine lv_iload hx hb dX16_init_20 (lv_at hl 4 rfl) ?_
  refine g_putF (ci := 18) hx hb hts in_X20 tyX20 tyX20_ok nmX20 hown hin hG 0 rfl rfl 3 (Nat.le_of_ble_eq_true rfl) (hts _ q2085) (fun _ h9 => h9) rfl rfl (tyX20_ok 3 (Nat.le_of_ble_eq_true rfl)) rfl rfl (Nat.le_of_ble_eq_true rfl) dX16_init_22 (fun H locs (hG : gW X F V ((rm, oB 18 [.int (zI x1), .int (zI x2), .ref on, .int (zI x4), .int (zI 0), .int (zI 0)]) :: Z) s H locs) => ?_)
  refine lv_aload_n hx hb dX16_init_25 rfl (lv_at hl 0 rfl) ?_
  refine lv_iload hx hb dX16_init_26 (lv_at hl 5 rfl) ?_
  refine g_putF (ci := 18) hx hb hts in_X20 tyX20 tyX20_ok nmX20 hown hin hG 0 rfl rfl 4 (Nat.le_of_ble_eq_true rfl) (hts _ q2091) (fun _ h9 => h9) rfl rfl (tyX20_ok 4 (Nat.le_of_ble_eq_true rfl)) rfl rfl (Nat.le_of_ble_eq_true rfl) dX16_init_28 (fun H locs (hG : gW X F V ((rm, oB 18 [.int (zI x1), .int (zI x2), .ref on, .int (zI x4), .int (zI x5), .int (zI 0)]) :: Z) s H locs) => ?_)
  refine lv_aload_n hx hb dX16_init_31 rfl (lv_at hl 0 rfl) ?_
  refine lv_iload hx hb dX16_init_32 (lv_at hl 6 rfl) ?_
  refine g_putF (ci := 18) hx hb hts in_X20 tyX20 tyX20_ok nmX20 hown hin hG 0 rfl rfl 5 (Nat.le_of_ble_eq_true rfl) (hts _ q2098) (fun _ h9 => h9) rfl rfl (tyX20_ok 5 (Nat.le_of_ble_eq_true rfl)) rfl rfl (Nat.le_of_ble_eq_true rfl) dX16_init_34 (fun H locs (hG : gW X F V ((rm, oB 18 [.int (zI x1), .int (zI x2), .ref on, .int (zI x4), .int (zI x5), .int (zI x6)]) :: Z) s H locs) => ?_)
  exact g_vret hx hb hr hlocks hG (⟨rfl, rfl, rfl⟩) ⟨Nat.le_of_ble_eq_true rfl, Nat.le_of_ble_eq_true rfl⟩ dX16_init_37

set_option maxHeartbeats 4000000 in
theorem metX20_init_k4 {l : Launch} {X : gX} {F : gF} {V : gV} {Z : va_W} {rm on : Nat} {x1 x2 x4 x5 x6 : Int} : Met l yX20_init (ws_ yX20_init cX20_init 7 none) ({ frames := 2, cells := 0, slots := 0, locals := 46 }) (gP X F V ((rm, oB 18 [.int (zI 0), .int (zI 0), .null, .int (zI 0), .int (zI 0), .int (zI 0)]) :: Z) [.ref rm, .int (zI x1), .int (zI x2), .ref on, .int (zI x4), .int (zI x5), .int (zI x6)]) (gQv X (fun G U ws => F = G ∧ V = U ∧ ((rm, oB 18 [.int (zI x1), .int (zI x2), .ref on, .int (zI x4), .int (zI x5), .int (zI x6)]) :: Z) = ws)) 0 0 (gA X) := by
  refine Met.g (by decide) (Nat.le_of_ble_eq_true rfl) ?_
  intro p e s m below meth c ls hx hb hr hts hown hlocks hml hin hG hl
  have hl : lv_has ls 7 [(0, .ref rm), (1, .int (zI x1)), (2, .int (zI x2)), (3, .ref on), (4, .int (zI x4)), (5, .int (zI x5)), (6, .int (zI x6))] := hl
  refine lv_aload_n hx hb dX20_init_0 rfl (lv_at hl 0 rfl) ?_
  refine lv_iload_n hx hb dX20_init_1 rfl (lv_at hl 1 rfl) ?_
  refine lv_iload_n hx hb dX20_init_2 rfl (lv_at hl 2 rfl) ?_
  refine lv_aload_n hx hb dX20_init_3 rfl (lv_at hl 3 rfl) ?_
  refine lv_iload hx hb dX20_init_4 (lv_at hl 4 rfl) ?_
  refine lv_iload hx hb dX20_init_6 (lv_at hl 5 rfl) ?_
  refine lv_iload hx hb dX20_init_8 (lv_at hl 6 rfl) ?_
  refine g_cv (va_runI (As := [.int (zI x1), .int (zI x2), .ref on, .int (zI x4), .int (zI x5), .int (zI x6)]) (rest := []) ⟨hx, hb, hml, hown, hts⟩ (metX16_init_k4) (cwI 6 hts (lw_meth q2061) rfl rfl rfl (hts _ q145) (hts _ q2145) (hts _ q2060) rfl (by decide +kernel) ⟨Nat.le_of_ble_eq_true rfl, Nat.le_of_ble_eq_true rfl⟩) (g_preS hG) rfl rfl hl.1 rfl (lv_room (Nat.le_of_ble_eq_true rfl)) dX20_init_10 ⟨Nat.le_of_ble_eq_true rfl, Nat.le_of_ble_eq_true rfl⟩) hG (fun F_2 V_3 ws_ H locs hp hG => ?_)
  obtain ⟨rfl, rfl, rfl⟩ := hp
  have hG : gW X F V ((rm, oB 18 [.int (zI x1), .int (zI x2), .ref on, .int (zI x4), .int (zI x5), .int (zI x6)]) :: Z) s H locs := hG
  exact g_vret hx hb hr hlocks hG (⟨rfl, rfl, rfl⟩) ⟨Nat.le_of_ble_eq_true rfl, Nat.le_of_ble_eq_true rfl⟩ dX20_init_13

set_option maxHeartbeats 4000000 in
theorem metX16_init_k5 {l : Launch} {X : gX} {F : gF} {V : gV} {Z : va_W} {rm on : Nat} {x1 x2 x4 x5 x6 : Int} : Met l yX16_init (ws_ yX16_init cX16_init 7 none) ({ frames := 1, cells := 0, slots := 0, locals := 20 }) (gP X F V ((rm, oB 19 [.int (zI 0), .int (zI 0), .null, .int (zI 0), .int (zI 0), .int (zI 0)]) :: Z) [.ref rm, .int (zI x1), .int (zI x2), .ref on, .int (zI x4), .int (zI x5), .int (zI x6)]) (gQv X (fun G U ws => F = G ∧ V = U ∧ ((rm, oB 19 [.int (zI x1), .int (zI x2), .ref on, .int (zI x4), .int (zI x5), .int (zI x6)]) :: Z) = ws)) 0 0 (gA X) := by
  refine Met.g (by decide) (Nat.le_of_ble_eq_true rfl) ?_
  intro p e s m below meth c ls hx hb hr hts hown hlocks hml hin hG hl
  have hl : lv_has ls 7 [(0, .ref rm), (1, .int (zI x1)), (2, .int (zI x2)), (3, .ref on), (4, .int (zI x4)), (5, .int (zI x5)), (6, .int (zI x6))] := hl
  refine lv_aload_n hx hb dX16_init_0 rfl (lv_at hl 0 rfl) ?_
  refine W.objInit hx hb hown (hts _ q2062) (hts _ q170) (hts _ q171) rfl (by rw [hml]; exact hl.1) rfl dX16_init_1 (Nat.le_of_ble_eq_true rfl) (Nat.le_of_ble_eq_true rfl) ?_
  refine W.eq (g2 := F0 m 4 ls []) rfl ?_
  refine lv_aload_n hx hb dX16_init_4 rfl (lv_at hl 0 rfl) ?_
  refine lv_iload_n hx hb dX16_init_5 rfl (lv_at hl 1 rfl) ?_
  refine g_putF (ci := 19) hx hb hts in_X21 tyX21 tyX21_ok nmX21 hown hin hG 0 rfl rfl 0 (Nat.le_of_ble_eq_true rfl) (hts _ q2063) (fun _ h9 => h9) rfl rfl (tyX21_ok 0 (Nat.le_of_ble_eq_true rfl)) rfl rfl (Nat.le_of_ble_eq_true rfl) dX16_init_6 (fun H locs (hG : gW X F V ((rm, oB 19 [.int (zI x1), .int (zI 0), .null, .int (zI 0), .int (zI 0), .int (zI 0)]) :: Z) s H locs) => ?_)
  refine lv_aload_n hx hb dX16_init_9 rfl (lv_at hl 0 rfl) ?_
  refine lv_iload_n hx hb dX16_init_10 rfl (lv_at hl 2 rfl) ?_
  refine g_putF (ci := 19) hx hb hts in_X21 tyX21 tyX21_ok nmX21 hown hin hG 0 rfl rfl 1 (Nat.le_of_ble_eq_true rfl) (hts _ q2067) (fun _ h9 => h9) rfl rfl (tyX21_ok 1 (Nat.le_of_ble_eq_true rfl)) rfl rfl (Nat.le_of_ble_eq_true rfl) dX16_init_11 (fun H locs (hG : gW X F V ((rm, oB 19 [.int (zI x1), .int (zI x2), .null, .int (zI 0), .int (zI 0), .int (zI 0)]) :: Z) s H locs) => ?_)
  refine lv_aload_n hx hb dX16_init_14 rfl (lv_at hl 0 rfl) ?_
  refine lv_aload_n hx hb dX16_init_15 rfl (lv_at hl 3 rfl) ?_
  refine g_putF (ci := 19) hx hb hts in_X21 tyX21 tyX21_ok nmX21 hown hin hG 0 rfl rfl 2 (Nat.le_of_ble_eq_true rfl) (hts _ q2080) (fun _ h9 => h9) rfl rfl (tyX21_ok 2 (Nat.le_of_ble_eq_true rfl)) rfl rfl (Nat.le_of_ble_eq_true rfl) dX16_init_16 (fun H locs (hG : gW X F V ((rm, oB 19 [.int (zI x1), .int (zI x2), .ref on, .int (zI 0), .int (zI 0), .int (zI 0)]) :: Z) s H locs) => ?_)
  refine lv_aload_n hx hb dX16_init_19 rfl (lv_at hl 0 rfl) ?_
  refine lv_iload hx hb dX16_init_20 (lv_at hl 4 rfl) ?_
  refine g_putF (ci := 19) hx hb hts in_X21 tyX21 tyX21_ok nmX21 hown hin hG 0 rfl rfl 3 (Nat.le_of_ble_eq_true rfl) (hts _ q2085) (fun _ h9 => h9) rfl rfl (tyX21_ok 3 (Nat.le_of_ble_eq_true rfl)) rfl rfl (Nat.le_of_ble_eq_true rfl) dX16_init_22 (fun H locs (hG : gW X F V ((rm, oB 19 [.int (zI x1), .int (zI x2), .ref on, .int (zI x4), .int (zI 0), .int (zI 0)]) :: Z) s H locs) => ?_)
  refine lv_aload_n hx hb dX16_init_25 rfl (lv_at hl 0 rfl) ?_
  refine lv_iload hx hb dX16_init_26 (lv_at hl 5 rfl) ?_
  refine g_putF (ci := 19) hx hb hts in_X21 tyX21 tyX21_ok nmX21 hown hin hG 0 rfl rfl 4 (Nat.le_of_ble_eq_true rfl) (hts _ q2091) (fun _ h9 => h9) rfl rfl (tyX21_ok 4 (Nat.le_of_ble_eq_true rfl)) rfl rfl (Nat.le_of_ble_eq_true rfl) dX16_init_28 (fun H locs (hG : gW X F V ((rm, oB 19 [.int (zI x1), .int (zI x2), .ref on, .int (zI x4), .int (zI x5), .int (zI 0)]) :: Z) s H locs) => ?_)
  refine lv_aload_n hx hb dX16_init_31 rfl (lv_at hl 0 rfl) ?_
  refine lv_iload hx hb dX16_init_32 (lv_at hl 6 rfl) ?_
  refine g_putF (ci := 19) hx hb hts in_X21 tyX21 tyX21_ok nmX21 hown hin hG 0 rfl rfl 5 (Nat.le_of_ble_eq_true rfl) (hts _ q2098) (fun _ h9 => h9) rfl rfl (tyX21_ok 5 (Nat.le_of_ble_eq_true rfl)) rfl rfl (Nat.le_of_ble_eq_true rfl) dX16_init_34 (fun H locs (hG : gW X F V ((rm, oB 19 [.int (zI x1), .int (zI x2), .ref on, .int (zI x4), .int (zI x5), .int (zI x6)]) :: Z) s H locs) => ?_)
  exact g_vret hx hb hr hlocks hG (⟨rfl, rfl, rfl⟩) ⟨Nat.le_of_ble_eq_true rfl, Nat.le_of_ble_eq_true rfl⟩ dX16_init_37

set_option maxHeartbeats 4000000 in
theorem metX18_init_k5 {l : Launch} {X : gX} {F : gF} {V : gV} {Z : va_W} {rm on : Nat} {x1 x2 x4 x5 x6 : Int} : Met l yX18_init (ws_ yX18_init cX18_init 7 none) ({ frames := 2, cells := 0, slots := 0, locals := 46 }) (gP X F V ((rm, oB 19 [.int (zI 0), .int (zI 0), .null, .int (zI 0), .int (zI 0), .int (zI 0)]) :: Z) [.ref rm, .int (zI x1), .int (zI x2), .ref on, .int (zI x4), .int (zI x5), .int (zI x6)]) (gQv X (fun G U ws => F = G ∧ V = U ∧ ((rm, oB 19 [.int (zI x1), .int (zI x2), .ref on, .int (zI x4), .int (zI x5), .int (zI x6)]) :: Z) = ws)) 0 0 (gA X) := by
  refine Met.g (by decide) (Nat.le_of_ble_eq_true rfl) ?_
  intro p e s m below meth c ls hx hb hr hts hown hlocks hml hin hG hl
  have hl : lv_has ls 7 [(0, .ref rm), (1, .int (zI x1)), (2, .int (zI x2)), (3, .ref on), (4, .int (zI x4)), (5, .int (zI x5)), (6, .int (zI x6))] := hl
  refine lv_aload_n hx hb dX18_init_0 rfl (lv_at hl 0 rfl) ?_
  refine lv_iload_n hx hb dX18_init_1 rfl (lv_at hl 1 rfl) ?_
  refine lv_iload_n hx hb dX18_init_2 rfl (lv_at hl 2 rfl) ?_
  refine lv_aload_n hx hb dX18_init_3 rfl (lv_at hl 3 rfl) ?_
  refine lv_iload hx hb dX18_init_4 (lv_at hl 4 rfl) ?_
  refine lv_iload hx hb dX18_init_6 (lv_at hl 5 rfl) ?_
  refine lv_iload hx hb dX18_init_8 (lv_at hl 6 rfl) ?_
  refine g_cv (va_runI (As := [.int (zI x1), .int (zI x2), .ref on, .int (zI x4), .int (zI x5), .int (zI x6)]) (rest := []) ⟨hx, hb, hml, hown, hts⟩ (metX16_init_k5) (cwI 6 hts (lw_meth q2061) rfl rfl rfl (hts _ q145) (hts _ q2119) (hts _ q2060) rfl (by decide +kernel) ⟨Nat.le_of_ble_eq_true rfl, Nat.le_of_ble_eq_true rfl⟩) (g_preS hG) rfl rfl hl.1 rfl (lv_room (Nat.le_of_ble_eq_true rfl)) dX18_init_10 ⟨Nat.le_of_ble_eq_true rfl, Nat.le_of_ble_eq_true rfl⟩) hG (fun F_2 V_3 ws_ H locs hp hG => ?_)
  obtain ⟨rfl, rfl, rfl⟩ := hp
  have hG : gW X F V ((rm, oB 19 [.int (zI x1), .int (zI x2), .ref on, .int (zI x4), .int (zI x5), .int (zI x6)]) :: Z) s H locs := hG
  exact g_vret hx hb hr hlocks hG (⟨rfl, rfl, rfl⟩) ⟨Nat.le_of_ble_eq_true rfl, Nat.le_of_ble_eq_true rfl⟩ dX18_init_13

set_option maxHeartbeats 4000000 in
theorem metX21_init_k5 {l : Launch} {X : gX} {F : gF} {V : gV} {Z : va_W} {rm on : Nat} {x1 x2 x4 x5 x6 : Int} : Met l yX21_init (ws_ yX21_init cX21_init 7 none) ({ frames := 3, cells := 0, slots := 0, locals := 72 }) (gP X F V ((rm, oB 19 [.int (zI 0), .int (zI 0), .null, .int (zI 0), .int (zI 0), .int (zI 0)]) :: Z) [.ref rm, .int (zI x1), .int (zI x2), .ref on, .int (zI x4), .int (zI x5), .int (zI x6)]) (gQv X (fun G U ws => F = G ∧ V = U ∧ ((rm, oB 19 [.int (zI x1), .int (zI x2), .ref on, .int (zI x4), .int (zI x5), .int (zI x6)]) :: Z) = ws)) 0 0 (gA X) := by
  refine Met.g (by decide) (Nat.le_of_ble_eq_true rfl) ?_
  intro p e s m below meth c ls hx hb hr hts hown hlocks hml hin hG hl
  have hl : lv_has ls 7 [(0, .ref rm), (1, .int (zI x1)), (2, .int (zI x2)), (3, .ref on), (4, .int (zI x4)), (5, .int (zI x5)), (6, .int (zI x6))] := hl
  refine lv_aload_n hx hb dX21_init_0 rfl (lv_at hl 0 rfl) ?_
  refine lv_iload_n hx hb dX21_init_1 rfl (lv_at hl 1 rfl) ?_
  refine lv_iload_n hx hb dX21_init_2 rfl (lv_at hl 2 rfl) ?_
  refine lv_aload_n hx hb dX21_init_3 rfl (lv_at hl 3 rfl) ?_
  refine lv_iload hx hb dX21_init_4 (lv_at hl 4 rfl) ?_
  refine lv_iload hx hb dX21_init_6 (lv_at hl 5 rfl) ?_
  refine lv_iload hx hb dX21_init_8 (lv_at hl 6 rfl) ?_
  refine g_cv (va_runI (As := [.int (zI x1), .int (zI x2), .ref on, .int (zI x4), .int (zI x5), .int (zI x6)]) (rest := []) ⟨hx, hb, hml, hown, hts⟩ (metX18_init_k5) (cwI 6 hts (lw_meth q2118) rfl rfl rfl (hts _ q147) (hts _ q2158) (hts _ q2117) rfl (by decide +kernel) ⟨Nat.le_of_ble_eq_true rfl, Nat.le_of_ble_eq_true rfl⟩) (g_preS hG) rfl rfl hl.1 rfl (lv_room (Nat.le_of_ble_eq_true rfl)) dX21_init_10 ⟨Nat.le_of_ble_eq_true rfl, Nat.le_of_ble_eq_true rfl⟩) hG (fun F_2 V_3 ws_ H locs hp hG => ?_)
  obtain ⟨rfl, rfl, rfl⟩ := hp
  have hG : gW X F V ((rm, oB 19 [.int (zI x1), .int (zI x2), .ref on, .int (zI x4), .int (zI x5), .int (zI x6)]) :: Z) s H locs := hG
  exact g_vret hx hb hr hlocks hG (⟨rfl, rfl, rfl⟩) ⟨Nat.le_of_ble_eq_true rfl, Nat.le_of_ble_eq_true rfl⟩ dX21_init_13

set_option maxHeartbeats 4000000 in
theorem metX16_init_k6 {l : Launch} {X : gX} {F : gF} {V : gV} {Z : va_W} {rm on : Nat} {x1 x2 x4 x5 x6 : Int} : Met l yX16_init (ws_ yX16_init cX16_init 7 none) ({ frames := 1, cells := 0, slots := 0, locals := 20 }) (gP X F V ((rm, oB 20 [.int (zI 0), .int (zI 0), .null, .int (zI 0), .int (zI 0), .int (zI 0)]) :: Z) [.ref rm, .int (zI x1), .int (zI x2), .ref on, .int (zI x4), .int (zI x5), .int (zI x6)]) (gQv X (fun G U ws => F = G ∧ V = U ∧ ((rm, oB 20 [.int (zI x1), .int (zI x2), .ref on, .int (zI x4), .int (zI x5), .int (zI x6)]) :: Z) = ws)) 0 0 (gA X) := by
  refine Met.g (by decide) (Nat.le_of_ble_eq_true rfl) ?_
  intro p e s m below meth c ls hx hb hr hts hown hlocks hml hin hG hl
  have hl : lv_has ls 7 [(0, .ref rm), (1, .int (zI x1)), (2, .int (zI x2)), (3, .ref on), (4, .int (zI x4)), (5, .int (zI x5)), (6, .int (zI x6))] := hl
  refine lv_aload_n hx hb dX16_init_0 rfl (lv_at hl 0 rfl) ?_
  refine W.objInit hx hb hown (hts _ q2062) (hts _ q170) (hts _ q171) rfl (by rw [hml]; exact hl.1) rfl dX16_init_1 (Nat.le_of_ble_eq_true rfl) (Nat.le_of_ble_eq_true rfl) ?_
  refine W.eq (g2 := F0 m 4 ls []) rfl ?_
  refine lv_aload_n hx hb dX16_init_4 rfl (lv_at hl 0 rfl) ?_
  refine lv_iload_n hx hb dX16_init_5 rfl (lv_at hl 1 rfl) ?_
  refine g_putF (ci := 20) hx hb hts in_X22 tyX22 tyX22_ok nmX22 hown hin hG 0 rfl rfl 0 (Nat.le_of_ble_eq_true rfl) (hts _ q2063) (fun _ h9 => h9) rfl rfl (tyX22_ok 0 (Nat.le_of_ble_eq_true rfl)) rfl rfl (Nat.le_of_ble_eq_true rfl) dX16_init_6 (fun H locs (hG : gW X F V ((rm, oB 20 [.int (zI x1), .int (zI 0), .null, .int (zI 0), .int (zI 0), .int (zI 0)]) :: Z) s H locs) => ?_)
  refine lv_aload_n hx hb dX16_init_9 rfl (lv_at hl 0 rfl) ?_
  refine lv_iload_n hx hb dX16_init_10 rfl (lv_at hl 2 rfl) ?_
  refine g_putF (ci := 20) hx hb hts in_X22 tyX22 tyX22_ok nmX22 hown hin hG 0 rfl rfl 1 (Nat.le_of_ble_eq_true rfl) (hts _ q2067) (fun _ h9 => h9) rfl rfl (tyX22_ok 1 (Nat.le_of_ble_eq_true rfl)) rfl rfl (Nat.le_of_ble_eq_true rfl) dX16_init_11 (fun H locs (hG : gW X F V ((rm, oB 20 [.int (zI x1), .int (zI x2), .null, .int (zI 0), .int (zI 0), .int (zI 0)]) :: Z) s H locs) => ?_)
  refine lv_aload_n hx hb dX16_init_14 rfl (lv_at hl 0 rfl) ?_
  refine lv_aload_n hx hb dX16_init_15 rfl (lv_at hl 3 rfl) ?_
  refine g_putF (ci := 20) hx hb hts in_X22 tyX22 tyX22_ok nmX22 hown hin hG 0 rfl rfl 2 (Nat.le_of_ble_eq_true rfl) (hts _ q2080) (fun _ h9 => h9) rfl rfl (tyX22_ok 2 (Nat.le_of_ble_eq_true rfl)) rfl rfl (Nat.le_of_ble_eq_true rfl) dX16_init_16 (fun H locs (hG : gW X F V ((rm, oB 20 [.int (zI x1), .int (zI x2), .ref on, .int (zI 0), .int (zI 0), .int (zI 0)]) :: Z) s H locs) => ?_)
  refine lv_aload_n hx hb dX16_init_19 rfl (lv_at hl 0 rfl) ?_
  refine lv_iload hx hb dX16_init_20 (lv_at hl 4 rfl) ?_
  refine g_putF (ci := 20) hx hb hts in_X22 tyX22 tyX22_ok nmX22 hown hin hG 0 rfl rfl 3 (Nat.le_of_ble_eq_true rfl) (hts _ q2085) (fun _ h9 => h9) rfl rfl (tyX22_ok 3 (Nat.le_of_ble_eq_true rfl)) rfl rfl (Nat.le_of_ble_eq_true rfl) dX16_init_22 (fun H locs (hG : gW X F V ((rm, oB 20 [.int (zI x1), .int (zI x2), .ref on, .int (zI x4), .int (zI 0), .int (zI 0)]) :: Z) s H locs) => ?_)
  refine lv_aload_n hx hb dX16_init_25 rfl (lv_at hl 0 rfl) ?_
  refine lv_iload hx hb dX16_init_26 (lv_at hl 5 rfl) ?_
  refine g_putF (ci := 20) hx hb hts in_X22 tyX22 tyX22_ok nmX22 hown hin hG 0 rfl rfl 4 (Nat.le_of_ble_eq_true rfl) (hts _ q2091) (fun _ h9 => h9) rfl rfl (tyX22_ok 4 (Nat.le_of_ble_eq_true rfl)) rfl rfl (Nat.le_of_ble_eq_true rfl) dX16_init_28 (fun H locs (hG : gW X F V ((rm, oB 20 [.int (zI x1), .int (zI x2), .ref on, .int (zI x4), .int (zI x5), .int (zI 0)]) :: Z) s H locs) => ?_)
  refine lv_aload_n hx hb dX16_init_31 rfl (lv_at hl 0 rfl) ?_
  refine lv_iload hx hb dX16_init_32 (lv_at hl 6 rfl) ?_
  refine g_putF (ci := 20) hx hb hts in_X22 tyX22 tyX22_ok nmX22 hown hin hG 0 rfl rfl 5 (Nat.le_of_ble_eq_true rfl) (hts _ q2098) (fun _ h9 => h9) rfl rfl (tyX22_ok 5 (Nat.le_of_ble_eq_true rfl)) rfl rfl (Nat.le_of_ble_eq_true rfl) dX16_init_34 (fun H locs (hG : gW X F V ((rm, oB 20 [.int (zI x1), .int (zI x2), .ref on, .int (zI x4), .int (zI x5), .int (zI x6)]) :: Z) s H locs) => ?_)
  exact g_vret hx hb hr hlocks hG (⟨rfl, rfl, rfl⟩) ⟨Nat.le_of_ble_eq_true rfl, Nat.le_of_ble_eq_true rfl⟩ dX16_init_37

set_option maxHeartbeats 4000000 in
theorem metX17_init_k6 {l : Launch} {X : gX} {F : gF} {V : gV} {Z : va_W} {rm on : Nat} {x1 x2 x4 x5 x6 : Int} : Met l yX17_init (ws_ yX17_init cX17_init 7 none) ({ frames := 2, cells := 0, slots := 0, locals := 46 }) (gP X F V ((rm, oB 20 [.int (zI 0), .int (zI 0), .null, .int (zI 0), .int (zI 0), .int (zI 0)]) :: Z) [.ref rm, .int (zI x1), .int (zI x2), .ref on, .int (zI x4), .int (zI x5), .int (zI x6)]) (gQv X (fun G U ws => F = G ∧ V = U ∧ ((rm, oB 20 [.int (zI x1), .int (zI x2), .ref on, .int (zI x4), .int (zI x5), .int (zI x6)]) :: Z) = ws)) 0 0 (gA X) := by
  refine Met.g (by decide) (Nat.le_of_ble_eq_true rfl) ?_
  intro p e s m below meth c ls hx hb hr hts hown hlocks hml hin hG hl
  have hl : lv_has ls 7 [(0, .ref rm), (1, .int (zI x1)), (2, .int (zI x2)), (3, .ref on), (4, .int (zI x4)), (5, .int (zI x5)), (6, .int (zI x6))] := hl
  refine lv_aload_n hx hb dX17_init_0 rfl (lv_at hl 0 rfl) ?_
  refine lv_iload_n hx hb dX17_init_1 rfl (lv_at hl 1 rfl) ?_
  refine lv_iload_n hx hb dX17_init_2 rfl (lv_at hl 2 rfl) ?_
  refine lv_aload_n hx hb dX17_init_3 rfl (lv_at hl 3 rfl) ?_
  refine lv_iload hx hb dX17_init_4 (lv_at hl 4 rfl) ?_
  refine lv_iload hx hb dX17_init_6 (lv_at hl 5 rfl) ?_
  refine lv_iload hx hb dX17_init_8 (lv_at hl 6 rfl) ?_
  refine g_cv (va_runI (As := [.int (zI x1), .int (zI x2), .ref on, .int (zI x4), .int (zI x5), .int (zI x6)]) (rest := []) ⟨hx, hb, hml, hown, hts⟩ (metX16_init_k6) (cwI 6 hts (lw_meth q2061) rfl rfl rfl (hts _ q145) (hts _ q2059) (hts _ q2060) rfl (by decide +kernel) ⟨Nat.le_of_ble_eq_true rfl, Nat.le_of_ble_eq_true rfl⟩) (g_preS hG) rfl rfl hl.1 rfl (lv_room (Nat.le_of_ble_eq_true rfl)) dX17_init_10 ⟨Nat.le_of_ble_eq_true rfl, Nat.le_of_ble_eq_true rfl⟩) hG (fun F_2 V_3 ws_ H locs hp hG => ?_)
  obtain ⟨rfl, rfl, rfl⟩ := hp
  have hG : gW X F V ((rm, oB 20 [.int (zI x1), .int (zI x2), .ref on, .int (zI x4), .int (zI x5), .int (zI x6)]) :: Z) s H locs := hG
  exact g_vret hx hb hr hlocks hG (⟨rfl, rfl, rfl⟩) ⟨Nat.le_of_ble_eq_true rfl, Nat.le_of_ble_eq_true rfl⟩ dX17_init_13

set_option maxHeartbeats 4000000 in
theorem metX19_init_k6 {l : Launch} {X : gX} {F : gF} {V : gV} {Z : va_W} {rm on : Nat} {x1 x2 x4 x5 x6 : Int} : Met l yX19_init (ws_ yX19_init cX19_init 7 none) ({ frames := 3, cells := 0, slots := 0, locals := 72 }) (gP X F V ((rm, oB 20 [.int (zI 0), .int (zI 0), .null, .int (zI 0), .int (zI 0), .int (zI 0)]) :: Z) [.ref rm, .int (zI x1), .int (zI x2), .ref on, .int (zI x4), .int (zI x5), .int (zI x6)]) (gQv X (fun G U ws => F = G ∧ V = U ∧ ((rm, oB 20 [.int (zI x1), .int (zI x2), .ref on, .int (zI x4), .int (zI x5), .int (zI x6)]) :: Z) = ws)) 0 0 (gA X) := by
  refine Met.g (by decide) (Nat.le_of_ble_eq_true rfl) ?_
  intro p e s m below meth c ls hx hb hr hts hown hlocks hml hin hG hl
  have hl : lv_has ls 7 [(0, .ref rm), (1, .int (zI x1)), (2, .int (zI x2)), (3, .ref on), (4, .int (zI x4)), (5, .int (zI x5)), (6, .int (zI x6))] := hl
  refine lv_aload_n hx hb dX19_init_0 rfl (lv_at hl 0 rfl) ?_
  refine lv_iload_n hx hb dX19_init_1 rfl (lv_at hl 1 rfl) ?_
  refine lv_iload_n hx hb dX19_init_2 rfl (lv_at hl 2 rfl) ?_
  refine lv_aload_n hx hb dX19_init_3 rfl (lv_at hl 3 rfl) ?_
  refine lv_iload hx hb dX19_init_4 (lv_at hl 4 rfl) ?_
  refine lv_iload hx hb dX19_init_6 (lv_at hl 5 rfl) ?_
  refine lv_iload hx hb dX19_init_8 (lv_at hl 6 rfl) ?_
  refine g_cv (va_runI (As := [.int (zI x1), .int (zI x2), .ref on, .int (zI x4), .int (zI x5), .int (zI x6)]) (rest := []) ⟨hx, hb, hml, hown, hts⟩ (metX17_init_k6) (cwI 6 hts (lw_meth q2058) rfl rfl rfl (hts _ q146) (hts _ q2132) (hts _ q2057) rfl (by decide +kernel) ⟨Nat.le_of_ble_eq_true rfl, Nat.le_of_ble_eq_true rfl⟩) (g_preS hG) rfl rfl hl.1 rfl (lv_room (Nat.le_of_ble_eq_true rfl)) dX19_init_10 ⟨Nat.le_of_ble_eq_true rfl, Nat.le_of_ble_eq_true rfl⟩) hG (fun F_2 V_3 ws_ H locs hp hG => ?_)
  obtain ⟨rfl, rfl, rfl⟩ := hp
  have hG : gW X F V ((rm, oB 20 [.int (zI x1), .int (zI x2), .ref on, .int (zI x4), .int (zI x5), .int (zI x6)]) :: Z) s H locs := hG
  exact g_vret hx hb hr hlocks hG (⟨rfl, rfl, rfl⟩) ⟨Nat.le_of_ble_eq_true rfl, Nat.le_of_ble_eq_true rfl⟩ dX19_init_13

set_option maxHeartbeats 4000000 in
theorem metX22_init_k6 {l : Launch} {X : gX} {F : gF} {V : gV} {Z : va_W} {rm on : Nat} {x1 x2 x4 x5 x6 : Int} : Met l yX22_init (ws_ yX22_init cX22_init 7 none) ({ frames := 4, cells := 0, slots := 0, locals := 98 }) (gP X F V ((rm, oB 20 [.int (zI 0), .int (zI 0), .null, .int (zI 0), .int (zI 0), .int (zI 0)]) :: Z) [.ref rm, .int (zI x1), .int (zI x2), .ref on, .int (zI x4), .int (zI x5), .int (zI x6)]) (gQv X (fun G U ws => F = G ∧ V = U ∧ ((rm, oB 20 [.int (zI x1), .int (zI x2), .ref on, .int (zI x4), .int (zI x5), .int (zI x6)]) :: Z) = ws)) 0 0 (gA X) := by
  refine Met.g (by decide) (Nat.le_of_ble_eq_true rfl) ?_
  intro p e s m below meth c ls hx hb hr hts hown hlocks hml hin hG hl
  have hl : lv_has ls 7 [(0, .ref rm), (1, .int (zI x1)), (2, .int (zI x2)), (3, .ref on), (4, .int (zI x4)), (5, .int (zI x5)), (6, .int (zI x6))] := hl
  refine lv_aload_n hx hb dX22_init_0 rfl (lv_at hl 0 rfl) ?_
  refine lv_iload_n hx hb dX22_init_1 rfl (lv_at hl 1 rfl) ?_
  refine lv_iload_n hx hb dX22_init_2 rfl (lv_at hl 2 rfl) ?_
  refine lv_aload_n hx hb dX22_init_3 rfl (lv_at hl 3 rfl) ?_
  refine lv_iload hx hb dX22_init_4 (lv_at hl 4 rfl) ?_
  refine lv_iload hx hb dX22_init_6 (lv_at hl 5 rfl) ?_
  refine lv_iload hx hb dX22_init_8 (lv_at hl 6 rfl) ?_
  refine g_cv (va_runI (As := [.int (zI x1), .int (zI x2), .ref on, .int (zI x4), .int (zI x5), .int (zI x6)]) (rest := []) ⟨hx, hb, hml, hown, hts⟩ (metX19_init_k6) (cwI 6 hts (lw_meth q2131) rfl rfl rfl (hts _ q148) (hts _ q2171) (hts _ q2130) rfl (by decide +kernel) ⟨Nat.le_of_ble_eq_true rfl, Nat.le_of_ble_eq_true rfl⟩) (g_preS hG) rfl rfl hl.1 rfl (lv_room (Nat.le_of_ble_eq_true rfl)) dX22_init_10 ⟨Nat.le_of_ble_eq_true rfl, Nat.le_of_ble_eq_true rfl⟩) hG (fun F_2 V_3 ws_ H locs hp hG => ?_)
  obtain ⟨rfl, rfl, rfl⟩ := hp
  have hG : gW X F V ((rm, oB 20 [.int (zI x1), .int (zI x2), .ref on, .int (zI x4), .int (zI x5), .int (zI x6)]) :: Z) s H locs := hG
  exact g_vret hx hb hr hlocks hG (⟨rfl, rfl, rfl⟩) ⟨Nat.le_of_ble_eq_true rfl, Nat.le_of_ble_eq_true rfl⟩ dX22_init_13

set_option maxHeartbeats 4000000 in
theorem metX0_ofKind {l : Launch} {X : gX} {F : gF} {V : gV} {Z : va_W} {kd on : Nat} {x1 x2 x4 x5 x6 : Int} (hkd : kd ≤ 6) : Met l yX0_ofKind (ws_ yX0_ofKind cX0_ofKind 7 (some (FieldType.object "LineRemarks$Remark"))) ({ frames := 5, cells := 1, slots := 12, locals := 124 }) (gP X F V (Z) [.int (zI (kd : Int)), .int (zI x1), .int (zI x2), .ref on, .int (zI x4), .int (zI x5), .int (zI x6)]) (gQr X (fun u G U ws => F = G ∧ V = U ∧ ((u, oB (14 + kd) [.int (zI x1), .int (zI x2), .ref on, .int (zI x4), .int (zI x5), .int (zI x6)]) :: Z) = ws)) 1 12 (gA X) := by
  refine Met.g (by decide) (Nat.le_of_ble_eq_true rfl) ?_
  intro p e s m below meth c ls hx hb hr hts hown hlocks hml hin hG hl
  have hl : lv_has ls 7 [(0, .int (zI (kd : Int))), (1, .int (zI x1)), (2, .int (zI x2)), (3, .ref on), (4, .int (zI x4)), (5, .int (zI x5)), (6, .int (zI x6))] := hl
  refine lv_iload_n hx hb dX0_ofKind_0 rfl (lv_at hl 0 rfl) ?_
  rcases (show (kd : Int) = 0 ∨ (kd : Int) = 1 ∨ (kd : Int) = 2 ∨ (kd : Int) = 3 ∨ (kd : Int) = 4 ∨ (kd : Int) = 5 ∨ (kd : Int) = 6 by omega) with hk | hk | hk | hk | hk | hk | hk
  · refine g_tout (tgt := 142) hx hb dX0_ofKind_1 (by omega) (by decide) ?_
    have hkk : kd = 0 := by omega
    subst hkk
    refine g_new (ci := 14) hx hb hts in_X16 tyX16 tyX16_ok hown (hts _ q712) (hts _ q2179) (hts _ q145) hG rfl (fs := [.int (zI 0), .int (zI 0), .null, .int (zI 0), .int (zI 0), .int (zI 0)]) rfl ⟨Nat.le_of_ble_eq_true rfl, Nat.le_of_ble_eq_true rfl⟩ dX0_ofKind_142 (fun rm H (hG : gW X F V ((rm, oB 14 [.int (zI 0), .int (zI 0), .null, .int (zI 0), .int (zI 0), .int (zI 0)]) :: Z) s H _) => ?_)
    refine lv_dup hx hb dX0_ofKind_145 rfl ?_
    refine lv_iload_n hx hb dX0_ofKind_146 rfl (lv_at hl 1 rfl) ?_
    refine lv_iload_n hx hb dX0_ofKind_147 rfl (lv_at hl 2 rfl) ?_
    refine lv_aload_n hx hb dX0_ofKind_148 rfl (lv_at hl 3 rfl) ?_
    refine lv_iload hx hb dX0_ofKind_149 (lv_at hl 4 rfl) ?_
    refine lv_iload hx hb dX0_ofKind_151 (lv_at hl 5 rfl) ?_
    refine lv_iload hx hb dX0_ofKind_153 (lv_at hl 6 rfl) ?_
    refine g_cv (va_runI (As := [.int (zI x1), .int (zI x2), .ref on, .int (zI x4), .int (zI x5), .int (zI x6)]) (rest := [.ref rm]) ⟨hx, hb, hml, hown, hts⟩ (metX16_init_k0) (cwI 6 hts (lw_meth q2061) rfl rfl rfl (hts _ q145) (hts _ q2180) (hts _ q2060) rfl (by decide +kernel) ⟨Nat.le_of_ble_eq_true rfl, Nat.le_of_ble_eq_true rfl⟩) (g_preS hG) rfl rfl hl.1 rfl (lv_room (Nat.le_of_ble_eq_true rfl)) dX0_ofKind_155 ⟨Nat.le_of_ble_eq_true rfl, Nat.le_of_ble_eq_true rfl⟩) hG (fun F_2 V_3 ws_ H locs hp hG => ?_)
    obtain ⟨rfl, rfl, rfl⟩ := hp
    have hG : gW X F V ((rm, oB 14 [.int (zI x1), .int (zI x2), .ref on, .int (zI x4), .int (zI x5), .int (zI x6)]) :: Z) s H locs := hG
    exact g_rret hx hb hr (Or.inl ⟨_, rfl⟩) hlocks hG (⟨rfl, rfl, rfl⟩) ⟨Nat.le_of_ble_eq_true rfl, Nat.le_of_ble_eq_true rfl⟩ dX0_ofKind_158
  · refine g_tin hx hb 1 (off := 39) (tgt := 40) dX0_ofKind_1 hk (by decide) rfl (by decide) ?_
    have hkk : kd = 1 := by omega
    subst hkk
    refine g_new (ci := 15) hx hb hts in_X17 tyX17 tyX17_ok hown (hts _ q2054) (hts _ q2055) (hts _ q146) hG rfl (fs := [.int (zI 0), .int (zI 0), .null, .int (zI 0), .int (zI 0), .int (zI 0)]) rfl ⟨Nat.le_of_ble_eq_true rfl, Nat.le_of_ble_eq_true rfl⟩ dX0_ofKind_40 (fun rm H (hG : gW X F V ((rm, oB 15 [.int (zI 0), .int (zI 0), .null, .int (zI 0), .int (zI 0), .int (zI 0)]) :: Z) s H _) => ?_)
    refine lv_dup hx hb dX0_ofKind_43 rfl ?_
    refine lv_iload_n hx hb dX0_ofKind_44 rfl (lv_at hl 1 rfl) ?_
    refine lv_iload_n hx hb dX0_ofKind_45 rfl (lv_at hl 2 rfl) ?_
    refine lv_aload_n hx hb dX0_ofKind_46 rfl (lv_at hl 3 rfl) ?_
    refine lv_iload hx hb dX0_ofKind_47 (lv_at hl 4 rfl) ?_
    refine lv_iload hx hb dX0_ofKind_49 (lv_at hl 5 rfl) ?_
    refine lv_iload hx hb dX0_ofKind_51 (lv_at hl 6 rfl) ?_
    refine g_cv (va_runI (As := [.int (zI x1), .int (zI x2), .ref on, .int (zI x4), .int (zI x5), .int (zI x6)]) (rest := [.ref rm]) ⟨hx, hb, hml, hown, hts⟩ (metX17_init_k1) (cwI 6 hts (lw_meth q2058) rfl rfl rfl (hts _ q146) (hts _ q2056) (hts _ q2057) rfl (by decide +kernel) ⟨Nat.le_of_ble_eq_true rfl, Nat.le_of_ble_eq_true rfl⟩) (g_preS hG) rfl rfl hl.1 rfl (lv_room (Nat.le_of_ble_eq_true rfl)) dX0_ofKind_53 ⟨Nat.le_of_ble_eq_true rfl, Nat.le_of_ble_eq_true rfl⟩) hG (fun F_5 V_6 ws_ H locs hp hG => ?_)
    obtain ⟨rfl, rfl, rfl⟩ := hp
    have hG : gW X F V ((rm, oB 15 [.int (zI x1), .int (zI x2), .ref on, .int (zI x4), .int (zI x5), .int (zI x6)]) :: Z) s H locs := hG
    exact g_rret hx hb hr (Or.inl ⟨_, rfl⟩) hlocks hG (⟨rfl, rfl, rfl⟩) ⟨Nat.le_of_ble_eq_true rfl, Nat.le_of_ble_eq_true rfl⟩ dX0_ofKind_56
  · refine g_tin hx hb 2 (off := 56) (tgt := 57) dX0_ofKind_1 hk (by decide) rfl (by decide) ?_
    have hkk : kd = 2 := by omega
    subst hkk
    refine g_new (ci := 16) hx hb hts in_X18 tyX18 tyX18_ok hown (hts _ q2114) (hts _ q2115) (hts _ q147) hG rfl (fs := [.int (zI 0), .int (zI 0), .null, .int (zI 0), .int (zI 0), .int (zI 0)]) rfl ⟨Nat.le_of_ble_eq_true rfl, Nat.le_of_ble_eq_true rfl⟩ dX0_ofKind_57 (fun rm H (hG : gW X F V ((rm, oB 16 [.int (zI 0), .int (zI 0), .null, .int (zI 0), .int (zI 0), .int (zI 0)]) :: Z) s H _) => ?_)
    refine lv_dup hx hb dX0_ofKind_60 rfl ?_
    refine lv_iload_n hx hb dX0_ofKind_61 rfl (lv_at hl 1 rfl) ?_
    refine lv_iload_n hx hb dX0_ofKind_62 rfl (lv_at hl 2 rfl) ?_
    refine lv_aload_n hx hb dX0_ofKind_63 rfl (lv_at hl 3 rfl) ?_
    refine lv_iload hx hb dX0_ofKind_64 (lv_at hl 4 rfl) ?_
    refine lv_iload hx hb dX0_ofKind_66 (lv_at hl 5 rfl) ?_
    refine lv_iload hx hb dX0_ofKind_68 (lv_at hl 6 rfl) ?_
    refine g_cv (va_runI (As := [.int (zI x1), .int (zI x2), .ref on, .int (zI x4), .int (zI x5), .int (zI x6)]) (rest := [.ref rm]) ⟨hx, hb, hml, hown, hts⟩ (metX18_init_k2) (cwI 6 hts (lw_meth q2118) rfl rfl rfl (hts _ q147) (hts _ q2116) (hts _ q2117) rfl (by decide +kernel) ⟨Nat.le_of_ble_eq_true rfl, Nat.le_of_ble_eq_true rfl⟩) (g_preS hG) rfl rfl hl.1 rfl (lv_room (Nat.le_of_ble_eq_true rfl)) dX0_ofKind_70 ⟨Nat.le_of_ble_eq_true rfl, Nat.le_of_ble_eq_true rfl⟩) hG (fun F_8 V_9 ws_ H locs hp hG => ?_)
    obtain ⟨rfl, rfl, rfl⟩ := hp
    have hG : gW X F V ((rm, oB 16 [.int (zI x1), .int (zI x2), .ref on, .int (zI x4), .int (zI x5), .int (zI x6)]) :: Z) s H locs := hG
    exact g_rret hx hb hr (Or.inl ⟨_, rfl⟩) hlocks hG (⟨rfl, rfl, rfl⟩) ⟨Nat.le_of_ble_eq_true rfl, Nat.le_of_ble_eq_true rfl⟩ dX0_ofKind_73
  · refine g_tin hx hb 3 (off := 73) (tgt := 74) dX0_ofKind_1 hk (by decide) rfl (by decide) ?_
    have hkk : kd = 3 := by omega
    subst hkk
    refine g_new (ci := 17) hx hb hts in_X19 tyX19 tyX19_ok hown (hts _ q2127) (hts _ q2128) (hts _ q148) hG rfl (fs := [.int (zI 0), .int (zI 0), .null, .int (zI 0), .int (zI 0), .int (zI 0)]) rfl ⟨Nat.le_of_ble_eq_true rfl, Nat.le_of_ble_eq_true rfl⟩ dX0_ofKind_74 (fun rm H (hG : gW X F V ((rm, oB 17 [.int (zI 0), .int (zI 0), .null, .int (zI 0), .int (zI 0), .int (zI 0)]) :: Z) s H _) => ?_)
    refine lv_dup hx hb dX0_ofKind_77 rfl ?_
    refine lv_iload_n hx hb dX0_ofKind_78 rfl (lv_at hl 1 rfl) ?_
    refine lv_iload_n hx hb dX0_ofKind_79 rfl (lv_at hl 2 rfl) ?_
    refine lv_aload_n hx hb dX0_ofKind_80 rfl (lv_at hl 3 rfl) ?_
    refine lv_iload hx hb dX0_ofKind_81 (lv_at hl 4 rfl) ?_
    refine lv_iload hx hb dX0_ofKind_83 (lv_at hl 5 rfl) ?_
    refine lv_iload hx hb dX0_ofKind_85 (lv_at hl 6 rfl) ?_
    refine g_cv (va_runI (As := [.int (zI x1), .int (zI x2), .ref on, .int (zI x4), .int (zI x5), .int (zI x6)]) (rest := [.ref rm]) ⟨hx, hb, hml, hown, hts⟩ (metX19_init_k3) (cwI 6 hts (lw_meth q2131) rfl rfl rfl (hts _ q148) (hts _ q2129) (hts _ q2130) rfl (by decide +kernel) ⟨Nat.le_of_ble_eq_true rfl, Nat.le_of_ble_eq_true rfl⟩) (g_preS hG) rfl rfl hl.1 rfl (lv_room (Nat.le_of_ble_eq_true rfl)) dX0_ofKind_87 ⟨Nat.le_of_ble_eq_true rfl, Nat.le_of_ble_eq_true rfl⟩) hG (fun F_11 V_12 ws_ H locs hp hG => ?_)
    obtain ⟨rfl, rfl, rfl⟩ := hp
    have hG : gW X F V ((rm, oB 17 [.int (zI x1), .int (zI x2), .ref on, .int (zI x4), .int (zI x5), .int (zI x6)]) :: Z) s H locs := hG
    exact g_rret hx hb hr (Or.inl ⟨_, rfl⟩) hlocks hG (⟨rfl, rfl, rfl⟩) ⟨Nat.le_of_ble_eq_true rfl, Nat.le_of_ble_eq_true rfl⟩ dX0_ofKind_90
  · refine g_tin hx hb 4 (off := 90) (tgt := 91) dX0_ofKind_1 hk (by decide) rfl (by decide) ?_
    have hkk : kd = 4 := by omega
    subst hkk
    refine g_new (ci := 18) hx hb hts in_X20 tyX20 tyX20_ok hown (hts _ q2140) (hts _ q2141) (hts _ q149) hG rfl (fs := [.int (zI 0), .int (zI 0), .null, .int (zI 0), .int (zI 0), .int (zI 0)]) rfl ⟨Nat.le_of_ble_eq_true rfl, Nat.le_of_ble_eq_true rfl⟩ dX0_ofKind_91 (fun rm H (hG : gW X F V ((rm, oB 18 [.int (zI 0), .int (zI 0), .null, .int (zI 0), .int (zI 0), .int (zI 0)]) :: Z) s H _) => ?_)
    refine lv_dup hx hb dX0_ofKind_94 rfl ?_
    refine lv_iload_n hx hb dX0_ofKind_95 rfl (lv_at hl 1 rfl) ?_
    refine lv_iload_n hx hb dX0_ofKind_96 rfl (lv_at hl 2 rfl) ?_
    refine lv_aload_n hx hb dX0_ofKind_97 rfl (lv_at hl 3 rfl) ?_
    refine lv_iload hx hb dX0_ofKind_98 (lv_at hl 4 rfl) ?_
    refine lv_iload hx hb dX0_ofKind_100 (lv_at hl 5 rfl) ?_
    refine lv_iload hx hb dX0_ofKind_102 (lv_at hl 6 rfl) ?_
    refine g_cv (va_runI (As := [.int (zI x1), .int (zI x2), .ref on, .int (zI x4), .int (zI x5), .int (zI x6)]) (rest := [.ref rm]) ⟨hx, hb, hml, hown, hts⟩ (metX20_init_k4) (cwI 6 hts (lw_meth q2144) rfl rfl rfl (hts _ q149) (hts _ q2142) (hts _ q2143) rfl (by decide +kernel) ⟨Nat.le_of_ble_eq_true rfl, Nat.le_of_ble_eq_true rfl⟩) (g_preS hG) rfl rfl hl.1 rfl (lv_room (Nat.le_of_ble_eq_true rfl)) dX0_ofKind_104 ⟨Nat.le_of_ble_eq_true rfl, Nat.le_of_ble_eq_true rfl⟩) hG (fun F_14 V_15 ws_ H locs hp hG => ?_)
    obtain ⟨rfl, rfl, rfl⟩ := hp
    have hG : gW X F V ((rm, oB 18 [.int (zI x1), .int (zI x2), .ref on, .int (zI x4), .int (zI x5), .int (zI x6)]) :: Z) s H locs := hG
    exact g_rret hx hb hr (Or.inl ⟨_, rfl⟩) hlocks hG (⟨rfl, rfl, rfl⟩) ⟨Nat.le_of_ble_eq_true rfl, Nat.le_of_ble_eq_true rfl⟩ dX0_ofKind_107
  · refine g_tin hx hb 5 (off := 107) (tgt := 108) dX0_ofKind_1 hk (by decide) rfl (by decide) ?_
    have hkk : kd = 5 := by omega
    subst hkk
    refine g_new (ci := 19) hx hb hts in_X21 tyX21 tyX21_ok hown (hts _ q2153) (hts _ q2154) (hts _ q150) hG rfl (fs := [.int (zI 0), .int (zI 0), .null, .int (zI 0), .int (zI 0), .int (zI 0)]) rfl ⟨Nat.le_of_ble_eq_true rfl, Nat.le_of_ble_eq_true rfl⟩ dX0_ofKind_108 (fun rm H (hG : gW X F V ((rm, oB 19 [.int (zI 0), .int (zI 0), .null, .int (zI 0), .int (zI 0), .int (zI 0)]) :: Z) s H _) => ?_)
    refine lv_dup hx hb dX0_ofKind_111 rfl ?_
    refine lv_iload_n hx hb dX0_ofKind_112 rfl (lv_at hl 1 rfl) ?_
    refine lv_iload_n hx hb dX0_ofKind_113 rfl (lv_at hl 2 rfl) ?_
    refine lv_aload_n hx hb dX0_ofKind_114 rfl (lv_at hl 3 rfl) ?_
    refine lv_iload hx hb dX0_ofKind_115 (lv_at hl 4 rfl) ?_
    refine lv_iload hx hb dX0_ofKind_117 (lv_at hl 5 rfl) ?_
    refine lv_iload hx hb dX0_ofKind_119 (lv_at hl 6 rfl) ?_
    refine g_cv (va_runI (As := [.int (zI x1), .int (zI x2), .ref on, .int (zI x4), .int (zI x5), .int (zI x6)]) (rest := [.ref rm]) ⟨hx, hb, hml, hown, hts⟩ (metX21_init_k5) (cwI 6 hts (lw_meth q2157) rfl rfl rfl (hts _ q150) (hts _ q2155) (hts _ q2156) rfl (by decide +kernel) ⟨Nat.le_of_ble_eq_true rfl, Nat.le_of_ble_eq_true rfl⟩) (g_preS hG) rfl rfl hl.1 rfl (lv_room (Nat.le_of_ble_eq_true rfl)) dX0_ofKind_121 ⟨Nat.le_of_ble_eq_true rfl, Nat.le_of_ble_eq_true rfl⟩) hG (fun F_17 V_18 ws_ H locs hp hG => ?_)
    obtain ⟨rfl, rfl, rfl⟩ := hp
    have hG : gW X F V ((rm, oB 19 [.int (zI x1), .int (zI x2), .ref on, .int (zI x4), .int (zI x5), .int (zI x6)]) :: Z) s H locs := hG
    exact g_rret hx hb hr (Or.inl ⟨_, rfl⟩) hlocks hG (⟨rfl, rfl, rfl⟩) ⟨Nat.le_of_ble_eq_true rfl, Nat.le_of_ble_eq_true rfl⟩ dX0_ofKind_124
  · refine g_tin hx hb 6 (off := 124) (tgt := 125) dX0_ofKind_1 hk (by decide) rfl (by decide) ?_
    have hkk : kd = 6 := by omega
    subst hkk
    refine g_new (ci := 20) hx hb hts in_X22 tyX22 tyX22_ok hown (hts _ q2166) (hts _ q2167) (hts _ q151) hG rfl (fs := [.int (zI 0), .int (zI 0), .null, .int (zI 0), .int (zI 0), .int (zI 0)]) rfl ⟨Nat.le_of_ble_eq_true rfl, Nat.le_of_ble_eq_true rfl⟩ dX0_ofKind_125 (fun rm H (hG : gW X F V ((rm, oB 20 [.int (zI 0), .int (zI 0), .null, .int (zI 0), .int (zI 0), .int (zI 0)]) :: Z) s H _) => ?_)
    refine lv_dup hx hb dX0_ofKind_128 rfl ?_
    refine lv_iload_n hx hb dX0_ofKind_129 rfl (lv_at hl 1 rfl) ?_
    refine lv_iload_n hx hb dX0_ofKind_130 rfl (lv_at hl 2 rfl) ?_
    refine lv_aload_n hx hb dX0_ofKind_131 rfl (lv_at hl 3 rfl) ?_
    refine lv_iload hx hb dX0_ofKind_132 (lv_at hl 4 rfl) ?_
    refine lv_iload hx hb dX0_ofKind_134 (lv_at hl 5 rfl) ?_
    refine lv_iload hx hb dX0_ofKind_136 (lv_at hl 6 rfl) ?_
    refine g_cv (va_runI (As := [.int (zI x1), .int (zI x2), .ref on, .int (zI x4), .int (zI x5), .int (zI x6)]) (rest := [.ref rm]) ⟨hx, hb, hml, hown, hts⟩ (metX22_init_k6) (cwI 6 hts (lw_meth q2170) rfl rfl rfl (hts _ q151) (hts _ q2168) (hts _ q2169) rfl (by decide +kernel) ⟨Nat.le_of_ble_eq_true rfl, Nat.le_of_ble_eq_true rfl⟩) (g_preS hG) rfl rfl hl.1 rfl (lv_room (Nat.le_of_ble_eq_true rfl)) dX0_ofKind_138 ⟨Nat.le_of_ble_eq_true rfl, Nat.le_of_ble_eq_true rfl⟩) hG (fun F_20 V_21 ws_ H locs hp hG => ?_)
    obtain ⟨rfl, rfl, rfl⟩ := hp
    have hG : gW X F V ((rm, oB 20 [.int (zI x1), .int (zI x2), .ref on, .int (zI x4), .int (zI x5), .int (zI x6)]) :: Z) s H locs := hG
    exact g_rret hx hb hr (Or.inl ⟨_, rfl⟩) hlocks hG (⟨rfl, rfl, rfl⟩) ⟨Nat.le_of_ble_eq_true rfl, Nat.le_of_ble_eq_true rfl⟩ dX0_ofKind_141

