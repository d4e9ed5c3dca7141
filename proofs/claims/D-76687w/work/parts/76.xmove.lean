set_option maxRecDepth 100000
theorem upd_app {t : List Int} {f : Nat → Int32} {b : Int} (hf : ∀ i, i < t.length → f i = zI (t.getD i 0)) : ∀ i, i < t.length + 1 → upd f t.length (zI b) i = zI ((t ++ [b]).getD i 0) := by
  intro i hi
  unfold upd
  rcases Nat.lt_or_ge i t.length with h | h
  · rw [if_neg (by omega), hf i h, List.getD_eq_getElem?_getD, List.getD_eq_getElem?_getD, List.getElem?_append_left h]
  · have e : i = t.length := by omega
    subst e
    rw [if_pos rfl, List.getD_eq_getElem?_getD, List.getElem?_append_right (Nat.le_refl _), Nat.sub_self]; rfl
set_option maxHeartbeats 4000000 in
theorem metX1_runs {l : Launch} {X : gX} {F : gF} {V : gV} {Z : va_W} {tr tb : Nat} {b : Int} {t : List Int} (hT : xTr X V tr tb t) (hlen : t.length + 1 ≤ 20) : Met l yX1_runs (ws_ yX1_runs cX1_runs 2 none) ({ frames := 0, cells := 0, slots := 0, locals := 0 }) (gP X F V (Z) [.ref tr, .int (zI b)]) (gQv X (fun G U ws => F = G ∧ xTr X U tr tb (t ++ [b]) ∧ vx23 V U ∧ Z = ws)) 0 0 (gA X) := by
  refine Met.g (by decide) (Nat.le_of_ble_eq_true rfl) ?_
  intro p e s m below meth c ls hx hb hr hts hown hlocks hml hin hG hl
  have hl : lv_has ls 2 [(0, .ref tr), (1, .int (zI b))] := hl
  obtain ⟨h2, h20, f, h3, hf⟩ := hT
  refine lv_aload_n hx hb dX1_runs_0 rfl (lv_at hl 0 rfl) ?_
  refine g_get (ci := 1) hx hb hts in_X1 hown hG (hG.vo h2) rfl 1 (Nat.le_of_ble_eq_true rfl) (hts _ q182) (fun _ h9 => h9) rfl dX1_runs_1 ?_
  refine lv_bipush (v := zI 20) hx hb dX1_runs_4 (by decide +kernel) ?_
  refine g_cge (tgt := 19) hx hb dX1_runs_6 (by decide) (by omega) (fun h1 => ?_) (fun h1 => ?_)
  · exfalso; omega
  · refine lv_aload_n hx hb dX1_runs_9 rfl (lv_at hl 0 rfl) ?_
    refine g_get (ci := 1) hx hb hts in_X1 hown hG (hG.vo h2) rfl 0 (Nat.le_of_ble_eq_true rfl) (hts _ q180) (fun _ h9 => h9) rfl dX1_runs_10 ?_
    refine lv_aload_n hx hb dX1_runs_13 rfl (lv_at hl 0 rfl) ?_
    refine g_get (ci := 1) hx hb hts in_X1 hown hG (hG.vo h2) rfl 1 (Nat.le_of_ble_eq_true rfl) (hts _ q182) (fun _ h9 => h9) rfl dX1_runs_14 ?_
    refine lv_iload_n hx hb dX1_runs_17 rfl (lv_at hl 1 rfl) ?_
    refine g_iastV hx hb hG h3 t.length ⟨rfl, by omega, by omega⟩ dX1_runs_18 (fun H locs (hG : gW X F (va_up V 3 (some (tb, aI (gT X 0) 20 (upd f t.length (zI b))))) (Z) s H locs) => ?_)
    have h2 : (va_up V 3 (some (tb, aI (gT X 0) 20 (upd f t.length (zI b))))) 2 = some (tr, oB 1 [.ref tb, .int (zI (t.length : Int))]) := (vun (by decide)).trans h2
    have h3 : (va_up V 3 (some (tb, aI (gT X 0) 20 (upd f t.length (zI b))))) 3 = some (tb, aI (gT X 0) 20 (upd f t.length (zI b))) := vus
    refine lv_aload_n hx hb dX1_runs_19 rfl (lv_at hl 0 rfl) ?_
    refine lv_dup hx hb dX1_runs_20 rfl ?_
    refine g_get (ci := 1) hx hb hts in_X1 hown hG (hG.vo h2) rfl 1 (Nat.le_of_ble_eq_true rfl) (hts _ q182) (fun _ h9 => h9) rfl dX1_runs_21 ?_
    refine lv_iconst (v := zI 1) hx hb dX1_runs_24 (by decide +kernel) ?_
    refine g_iadd hx hb dX1_runs_25 ?_
    refine g_putV (ci := 1) hx hb hts in_X1 tyX1 tyX1_ok nmX1 hown hG h2 rfl 1 (Nat.le_of_ble_eq_true rfl) (hts _ q182) (fun _ h9 => h9) rfl (tyX1_ok 1 (Nat.le_of_ble_eq_true rfl)) rfl rfl (Nat.le_of_ble_eq_true rfl) dX1_runs_26 (fun H locs (hG : gW X F (va_up (va_up V 3 (some (tb, aI (gT X 0) 20 (upd f t.length (zI b))))) 2 (some (tr, oB 1 [.ref tb, .int (zI ((t.length : Int) + 1))]))) (Z) s H locs) => ?_)
    have h2 : (va_up (va_up V 3 (some (tb, aI (gT X 0) 20 (upd f t.length (zI b))))) 2 (some (tr, oB 1 [.ref tb, .int (zI ((t.length : Int) + 1))]))) 2 = some (tr, oB 1 [.ref tb, .int (zI ((t.length : Int) + 1))]) := vus
    have h3 : (va_up (va_up V 3 (some (tb, aI (gT X 0) 20 (upd f t.length (zI b))))) 2 (some (tr, oB 1 [.ref tb, .int (zI ((t.length : Int) + 1))]))) 3 = some (tb, aI (gT X 0) 20 (upd f t.length (zI b))) := (vun (by decide)).trans h3
    exact g_vret hx hb hr hlocks hG (⟨rfl, ⟨by rw [List.length_append]; exact h2, by rw [List.length_append]; exact hlen, _, h3, fun i hi => by rw [List.length_append] at hi; exact upd_app hf i hi⟩, fun r h2 h3 => (va_up_ne _ _ h2).trans (va_up_ne _ _ h3), rfl⟩) ⟨Nat.le_of_ble_eq_true rfl, Nat.le_of_ble_eq_true rfl⟩ dX1_runs_29

set_option maxHeartbeats 4000000 in
theorem metX16_pointing_k0 {l : Launch} {X : gX} {F : gF} {V : gV} {Z : va_W} {rm tr tb i9 : Nat} {x : Int} {ra : Nat → Nat} {r : Rm} {t : List Int} (hrm : isRmk F ra rm 0 i9 r) (hT : xTr X V tr tb t) (hlen : t.length + 1 ≤ 20) : Met l yX16_pointing (ws_ yX16_pointing cX16_pointing 3 (some FieldType.int)) ({ frames := 1, cells := 0, slots := 0, locals := 21 }) (gP X F V (Z) [.ref rm, .int (zI x), .ref tr]) (gQi X (fun u G U ws => u = zI (x + (i9 : Int)) ∧ F = G ∧ xTr X U tr tb (t ++ [10]) ∧ vx23 V U ∧ Z = ws)) 0 0 (gA X) := by
  refine Met.g (by decide) (Nat.le_of_ble_eq_true rfl) ?_
  intro p e s m below meth c ls hx hb hr hts hown hlocks hml hin hG hl
  have hl : lv_has ls 3 [(0, .ref rm), (1, .int (zI x)), (2, .ref tr)] := hl
  refine lv_aload_n hx hb dX16_pointing_0 rfl (lv_at hl 2 rfl) ?_
  refine lv_bipush (v := zI 10) hx hb dX16_pointing_1 (by decide +kernel) ?_
  refine g_cv (va_runV (As := [.int (zI 10)]) (rest := []) ⟨hx, hb, hml, hown, hts⟩ (metX1_runs (b := 10) hT (by omega)) (cwV 1 hts (lw_V q3200 q3191 q3192 q88 q3193) rfl rfl rfl (by decide +kernel) ⟨Nat.le_of_ble_eq_true rfl, Nat.le_of_ble_eq_true rfl⟩) (g_preV hG (g_recv hG (hG.vo hT.1) (ci := 1) rfl)) rfl rfl hl.1 rfl (lv_room (Nat.le_of_ble_eq_true rfl)) dX16_pointing_3 ⟨Nat.le_of_ble_eq_true rfl, Nat.le_of_ble_eq_true rfl⟩) hG (fun F_2 V_3 ws_ H locs hp hG => ?_)
  obtain ⟨rfl, hT1, hV1, rfl⟩ := hp
  have hG : gW X F V_3 (Z) s H locs := hG
  refine lv_iload_n hx hb dX16_pointing_6 rfl (lv_at hl 1 rfl) ?_
  refine lv_aload_n hx hb dX16_pointing_7 rfl (lv_at hl 0 rfl) ?_
  refine g_get (ci := 14) hx hb hts in_X16 hown hG (hG.fz (show F.1 rm = some (oB 14 _) from hrm)) rfl 0 (Nat.le_of_ble_eq_true rfl) (hts _ q2063) (fun _ h9 => h9) rfl dX16_pointing_8 ?_
  refine g_iadd hx hb dX16_pointing_11 ?_
  exact g_iret hx hb hr hlocks hG (⟨rfl, rfl, hT1, hV1, rfl⟩) ⟨Nat.le_of_ble_eq_true rfl, Nat.le_of_ble_eq_true rfl⟩ dX16_pointing_12

set_option maxHeartbeats 4000000 in
theorem metX16_pointing_k1 {l : Launch} {X : gX} {F : gF} {V : gV} {Z : va_W} {rm tr tb i9 : Nat} {x : Int} {ra : Nat → Nat} {r : Rm} {t : List Int} (hrm : isRmk F ra rm 1 i9 r) (hT : xTr X V tr tb t) (hlen : t.length + 1 ≤ 20) : Met l yX16_pointing (ws_ yX16_pointing cX16_pointing 3 (some FieldType.int)) ({ frames := 1, cells := 0, slots := 0, locals := 21 }) (gP X F V (Z) [.ref rm, .int (zI x), .ref tr]) (gQi X (fun u G U ws => u = zI (x + (i9 : Int)) ∧ F = G ∧ xTr X U tr tb (t ++ [10]) ∧ vx23 V U ∧ Z = ws)) 0 0 (gA X) := by
  refine Met.g (by decide) (Nat.le_of_ble_eq_true rfl) ?_
  intro p e s m below meth c ls hx hb hr hts hown hlocks hml hin hG hl
  have hl : lv_has ls 3 [(0, .ref rm), (1, .int (zI x)), (2, .ref tr)] := hl
  refine lv_aload_n hx hb dX16_pointing_0 rfl (lv_at hl 2 rfl) ?_
  refine lv_bipush (v := zI 10) hx hb dX16_pointing_1 (by decide +kernel) ?_
  refine g_cv (va_runV (As := [.int (zI 10)]) (rest := []) ⟨hx, hb, hml, hown, hts⟩ (metX1_runs (b := 10) hT (by omega)) (cwV 1 hts (lw_V q3200 q3191 q3192 q88 q3193) rfl rfl rfl (by decide +kernel) ⟨Nat.le_of_ble_eq_true rfl, Nat.le_of_ble_eq_true rfl⟩) (g_preV hG (g_recv hG (hG.vo hT.1) (ci := 1) rfl)) rfl rfl hl.1 rfl (lv_room (Nat.le_of_ble_eq_true rfl)) dX16_pointing_3 ⟨Nat.le_of_ble_eq_true rfl, Nat.le_of_ble_eq_true rfl⟩) hG (fun F_2 V_3 ws_ H locs hp hG => ?_)
  obtain ⟨rfl, hT1, hV1, rfl⟩ := hp
  have hG : gW X F V_3 (Z) s H locs := hG
  refine lv_iload_n hx hb dX16_pointing_6 rfl (lv_at hl 1 rfl) ?_
  refine lv_aload_n hx hb dX16_pointing_7 rfl (lv_at hl 0 rfl) ?_
  refine g_get (ci := 15) hx hb hts in_X17 hown hG (hG.fz (show F.1 rm = some (oB 15 _) from hrm)) rfl 0 (Nat.le_of_ble_eq_true rfl) (hts _ q2063) (fun _ h9 => h9) rfl dX16_pointing_8 ?_
  refine g_iadd hx hb dX16_pointing_11 ?_
  exact g_iret hx hb hr hlocks hG (⟨rfl, rfl, hT1, hV1, rfl⟩) ⟨Nat.le_of_ble_eq_true rfl, Nat.le_of_ble_eq_true rfl⟩ dX16_pointing_12

set_option maxHeartbeats 4000000 in
theorem metX16_pointing_k2 {l : Launch} {X : gX} {F : gF} {V : gV} {Z : va_W} {rm tr tb i9 : Nat} {x : Int} {ra : Nat → Nat} {r : Rm} {t : List Int} (hrm : isRmk F ra rm 2 i9 r) (hT : xTr X V tr tb t) (hlen : t.length + 1 ≤ 20) : Met l yX16_pointing (ws_ yX16_pointing cX16_pointing 3 (some FieldType.int)) ({ frames := 1, cells := 0, slots := 0, locals := 21 }) (gP X F V (Z) [.ref rm, .int (zI x), .ref tr]) (gQi X (fun u G U ws => u = zI (x + (i9 : Int)) ∧ F = G ∧ xTr X U tr tb (t ++ [10]) ∧ vx23 V U ∧ Z = ws)) 0 0 (gA X) := by
  refine Met.g (by decide) (Nat.le_of_ble_eq_true rfl) ?_
  intro p e s m below meth c ls hx hb hr hts hown hlocks hml hin hG hl
  have hl : lv_has ls 3 [(0, .ref rm), (1, .int (zI x)), (2, .ref tr)] := hl
  refine lv_aload_n hx hb dX16_pointing_0 rfl (lv_at hl 2 rfl) ?_
  refine lv_bipush (v := zI 10) hx hb dX16_pointing_1 (by decide +kernel) ?_
  refine g_cv (va_runV (As := [.int (zI 10)]) (rest := []) ⟨hx, hb, hml, hown, hts⟩ (metX1_runs (b := 10) hT (by omega)) (cwV 1 hts (lw_V q3200 q3191 q3192 q88 q3193) rfl rfl rfl (by decide +kernel) ⟨Nat.le_of_ble_eq_true rfl, Nat.le_of_ble_eq_true rfl⟩) (g_preV hG (g_recv hG (hG.vo hT.1) (ci := 1) rfl)) rfl rfl hl.1 rfl (lv_room (Nat.le_of_ble_eq_true rfl)) dX16_pointing_3 ⟨Nat.le_of_ble_eq_true rfl, Nat.le_of_ble_eq_true rfl⟩) hG (fun F_2 V_3 ws_ H locs hp hG => ?_)
  obtain ⟨rfl, hT1, hV1, rfl⟩ := hp
  have hG : gW X F V_3 (Z) s H locs := hG
  refine lv_iload_n hx hb dX16_pointing_6 rfl (lv_at hl 1 rfl) ?_
  refine lv_aload_n hx hb dX16_pointing_7 rfl (lv_at hl 0 rfl) ?_
  refine g_get (ci := 16) hx hb hts in_X18 hown hG (hG.fz (show F.1 rm = some (oB 16 _) from hrm)) rfl 0 (Nat.le_of_ble_eq_true rfl) (hts _ q2063) (fun _ h9 => h9) rfl dX16_pointing_8 ?_
  refine g_iadd hx hb dX16_pointing_11 ?_
  exact g_iret hx hb hr hlocks hG (⟨rfl, rfl, hT1, hV1, rfl⟩) ⟨Nat.le_of_ble_eq_true rfl, Nat.le_of_ble_eq_true rfl⟩ dX16_pointing_12

set_option maxHeartbeats 4000000 in
theorem metX16_pointing_k3 {l : Launch} {X : gX} {F : gF} {V : gV} {Z : va_W} {rm tr tb i9 : Nat} {x : Int} {ra : Nat → Nat} {r : Rm} {t : List Int} (hrm : isRmk F ra rm 3 i9 r) (hT : xTr X V tr tb t) (hlen : t.length + 1 ≤ 20) : Met l yX16_pointing (ws_ yX16_pointing cX16_pointing 3 (some FieldType.int)) ({ frames := 1, cells := 0, slots := 0, locals := 21 }) (gP X F V (Z) [.ref rm, .int (zI x), .ref tr]) (gQi X (fun u G U ws => u = zI (x + (i9 : Int)) ∧ F = G ∧ xTr X U tr tb (t ++ [10]) ∧ vx23 V U ∧ Z = ws)) 0 0 (gA X) := by
  refine Met.g (by decide) (Nat.le_of_ble_eq_true rfl) ?_
  intro p e s m below meth c ls hx hb hr hts hown hlocks hml hin hG hl
  have hl : lv_has ls 3 [(0, .ref rm), (1, .int (zI x)), (2, .ref tr)] := hl
  refine lv_aload_n hx hb dX16_pointing_0 rfl (lv_at hl 2 rfl) ?_
  refine lv_bipush (v := zI 10) hx hb dX16_pointing_1 (by decide +kernel) ?_
  refine g_cv (va_runV (As := [.int (zI 10)]) (rest := []) ⟨hx, hb, hml, hown, hts⟩ (metX1_runs (b := 10) hT (by omega)) (cwV 1 hts (lw_V q3200 q3191 q3192 q88 q3193) rfl rfl rfl (by decide +kernel) ⟨Nat.le_of_ble_eq_true rfl, Nat.le_of_ble_eq_true rfl⟩) (g_preV hG (g_recv hG (hG.vo hT.1) (ci := 1) rfl)) rfl rfl hl.1 rfl (lv_room (Nat.le_of_ble_eq_true rfl)) dX16_pointing_3 ⟨Nat.le_of_ble_eq_true rfl, Nat.le_of_ble_eq_true rfl⟩) hG (fun F_2 V_3 ws_ H locs hp hG => ?_)
  obtain ⟨rfl, hT1, hV1, rfl⟩ := hp
  have hG : gW X F V_3 (Z) s H locs := hG
  refine lv_iload_n hx hb dX16_pointing_6 rfl (lv_at hl 1 rfl) ?_
  refine lv_aload_n hx hb dX16_pointing_7 rfl (lv_at hl 0 rfl) ?_
  refine g_get (ci := 17) hx hb hts in_X19 hown hG (hG.fz (show F.1 rm = some (oB 17 _) from hrm)) rfl 0 (Nat.le_of_ble_eq_true rfl) (hts _ q2063) (fun _ h9 => h9) rfl dX16_pointing_8 ?_
  refine g_iadd hx hb dX16_pointing_11 ?_
  exact g_iret hx hb hr hlocks hG (⟨rfl, rfl, hT1, hV1, rfl⟩) ⟨Nat.le_of_ble_eq_true rfl, Nat.le_of_ble_eq_true rfl⟩ dX16_pointing_12

set_option maxHeartbeats 4000000 in
theorem metX16_pointing_k4 {l : Launch} {X : gX} {F : gF} {V : gV} {Z : va_W} {rm tr tb i9 : Nat} {x : Int} {ra : Nat → Nat} {r : Rm} {t : List Int} (hrm : isRmk F ra rm 4 i9 r) (hT : xTr X V tr tb t) (hlen : t.length + 1 ≤ 20) : Met l yX16_pointing (ws_ yX16_pointing cX16_pointing 3 (some FieldType.int)) ({ frames := 1, cells := 0, slots := 0, locals := 21 }) (gP X F V (Z) [.ref rm, .int (zI x), .ref tr]) (gQi X (fun u G U ws => u = zI (x + (i9 : Int)) ∧ F = G ∧ xTr X U tr tb (t ++ [10]) ∧ vx23 V U ∧ Z = ws)) 0 0 (gA X) := by
  refine Met.g (by decide) (Nat.le_of_ble_eq_true rfl) ?_
  intro p e s m below meth c ls hx hb hr hts hown hlocks hml hin hG hl
  have hl : lv_has ls 3 [(0, .ref rm), (1, .int (zI x)), (2, .ref tr)] := hl
  refine lv_aload_n hx hb dX16_pointing_0 rfl (lv_at hl 2 rfl) ?_
  refine lv_bipush (v := zI 10) hx hb dX16_pointing_1 (by decide +kernel) ?_
  refine g_cv (va_runV (As := [.int (zI 10)]) (rest := []) ⟨hx, hb, hml, hown, hts⟩ (metX1_runs (b := 10) hT (by omega)) (cwV 1 hts (lw_V q3200 q3191 q3192 q88 q3193) rfl rfl rfl (by decide +kernel) ⟨Nat.le_of_ble_eq_true rfl, Nat.le_of_ble_eq_true rfl⟩) (g_preV hG (g_recv hG (hG.vo hT.1) (ci := 1) rfl)) rfl rfl hl.1 rfl (lv_room (Nat.le_of_ble_eq_true rfl)) dX16_pointing_3 ⟨Nat.le_of_ble_eq_true rfl, Nat.le_of_ble_eq_true rfl⟩) hG (fun F_2 V_3 ws_ H locs hp hG => ?_)
  obtain ⟨rfl, hT1, hV1, rfl⟩ := hp
  have hG : gW X F V_3 (Z) s H locs := hG
  refine lv_iload_n hx hb dX16_pointing_6 rfl (lv_at hl 1 rfl) ?_
  refine lv_aload_n hx hb dX16_pointing_7 rfl (lv_at hl 0 rfl) ?_
  refine g_get (ci := 18) hx hb hts in_X20 hown hG (hG.fz (show F.1 rm = some (oB 18 _) from hrm)) rfl 0 (Nat.le_of_ble_eq_true rfl) (hts _ q2063) (fun _ h9 => h9) rfl dX16_pointing_8 ?_
  refine g_iadd hx hb dX16_pointing_11 ?_
  exact g_iret hx hb hr hlocks hG (⟨rfl, rfl, hT1, hV1, rfl⟩) ⟨Nat.le_of_ble_eq_true rfl, Nat.le_of_ble_eq_true rfl⟩ dX16_pointing_12

set_option maxHeartbeats 4000000 in
theorem metX16_pointing_k5 {l : Launch} {X : gX} {F : gF} {V : gV} {Z : va_W} {rm tr tb i9 : Nat} {x : Int} {ra : Nat → Nat} {r : Rm} {t : List Int} (hrm : isRmk F ra rm 5 i9 r) (hT : xTr X V tr tb t) (hlen : t.length + 1 ≤ 20) : Met l yX16_pointing (ws_ yX16_pointing cX16_pointing 3 (some FieldType.int)) ({ frames := 1, cells := 0, slots := 0, locals := 21 }) (gP X F V (Z) [.ref rm, .int (zI x), .ref tr]) (gQi X (fun u G U ws => u = zI (x + (i9 : Int)) ∧ F = G ∧ xTr X U tr tb (t ++ [10]) ∧ vx23 V U ∧ Z = ws)) 0 0 (gA X) := by
  refine Met.g (by decide) (Nat.le_of_ble_eq_true rfl) ?_
  intro p e s m below meth c ls hx hb hr hts hown hlocks hml hin hG hl
  have hl : lv_has ls 3 [(0, .ref rm), (1, .int (zI x)), (2, .ref tr)] := hl
  refine lv_aload_n hx hb dX16_pointing_0 rfl (lv_at hl 2 rfl) ?_
  refine lv_bipush (v := zI 10) hx hb dX16_pointing_1 (by decide +kernel) ?_
  refine g_cv (va_runV (As := [.int (zI 10)]) (rest := []) ⟨hx, hb, hml, hown, hts⟩ (metX1_runs (b := 10) hT (by omega)) (cwV 1 hts (lw_V q3200 q3191 q3192 q88 q3193) rfl rfl rfl (by decide +kernel) ⟨Nat.le_of_ble_eq_true rfl, Nat.le_of_ble_eq_true rfl⟩) (g_preV hG (g_recv hG (hG.vo hT.1) (ci := 1) rfl)) rfl rfl hl.1 rfl (lv_room (Nat.le_of_ble_eq_true rfl)) dX16_pointing_3 ⟨Nat.le_of_ble_eq_true rfl, Nat.le_of_ble_eq_true rfl⟩) hG (fun F_2 V_3 ws_ H locs hp hG => ?_)
  obtain ⟨rfl, hT1, hV1, rfl⟩ := hp
  have hG : gW X F V_3 (Z) s H locs := hG
  refine lv_iload_n hx hb dX16_pointing_6 rfl (lv_at hl 1 rfl) ?_
  refine lv_aload_n hx hb dX16_pointing_7 rfl (lv_at hl 0 rfl) ?_
  refine g_get (ci := 19) hx hb hts in_X21 hown hG (hG.fz (show F.1 rm = some (oB 19 _) from hrm)) rfl 0 (Nat.le_of_ble_eq_true rfl) (hts _ q2063) (fun _ h9 => h9) rfl dX16_pointing_8 ?_
  refine g_iadd hx hb dX16_pointing_11 ?_
  exact g_iret hx hb hr hlocks hG (⟨rfl, rfl, hT1, hV1, rfl⟩) ⟨Nat.le_of_ble_eq_true rfl, Nat.le_of_ble_eq_true rfl⟩ dX16_pointing_12

set_option maxHeartbeats 4000000 in
theorem metX16_pointing_k6 {l : Launch} {X : gX} {F : gF} {V : gV} {Z : va_W} {rm tr tb i9 : Nat} {x : Int} {ra : Nat → Nat} {r : Rm} {t : List Int} (hrm : isRmk F ra rm 6 i9 r) (hT : xTr X V tr tb t) (hlen : t.length + 1 ≤ 20) : Met l yX16_pointing (ws_ yX16_pointing cX16_pointing 3 (some FieldType.int)) ({ frames := 1, cells := 0, slots := 0, locals := 21 }) (gP X F V (Z) [.ref rm, .int (zI x), .ref tr]) (gQi X (fun u G U ws => u = zI (x + (i9 : Int)) ∧ F = G ∧ xTr X U tr tb (t ++ [10]) ∧ vx23 V U ∧ Z = ws)) 0 0 (gA X) := by
  refine Met.g (by decide) (Nat.le_of_ble_eq_true rfl) ?_
  intro p e s m below meth c ls hx hb hr hts hown hlocks hml hin hG hl
  have hl : lv_has ls 3 [(0, .ref rm), (1, .int (zI x)), (2, .ref tr)] := hl
  refine lv_aload_n hx hb dX16_pointing_0 rfl (lv_at hl 2 rfl) ?_
  refine lv_bipush (v := zI 10) hx hb dX16_pointing_1 (by decide +kernel) ?_
  refine g_cv (va_runV (As := [.int (zI 10)]) (rest := []) ⟨hx, hb, hml, hown, hts⟩ (metX1_runs (b := 10) hT (by omega)) (cwV 1 hts (lw_V q3200 q3191 q3192 q88 q3193) rfl rfl rfl (by decide +kernel) ⟨Nat.le_of_ble_eq_true rfl, Nat.le_of_ble_eq_true rfl⟩) (g_preV hG (g_recv hG (hG.vo hT.1) (ci := 1) rfl)) rfl rfl hl.1 rfl (lv_room (Nat.le_of_ble_eq_true rfl)) dX16_pointing_3 ⟨Nat.le_of_ble_eq_true rfl, Nat.le_of_ble_eq_true rfl⟩) hG (fun F_2 V_3 ws_ H locs hp hG => ?_)
  obtain ⟨rfl, hT1, hV1, rfl⟩ := hp
  have hG : gW X F V_3 (Z) s H locs := hG
  refine lv_iload_n hx hb dX16_pointing_6 rfl (lv_at hl 1 rfl) ?_
  refine lv_aload_n hx hb dX16_pointing_7 rfl (lv_at hl 0 rfl) ?_
  refine g_get (ci := 20) hx hb hts in_X22 hown hG (hG.fz (show F.1 rm = some (oB 20 _) from hrm)) rfl 0 (Nat.le_of_ble_eq_true rfl) (hts _ q2063) (fun _ h9 => h9) rfl dX16_pointing_8 ?_
  refine g_iadd hx hb dX16_pointing_11 ?_
  exact g_iret hx hb hr hlocks hG (⟨rfl, rfl, hT1, hV1, rfl⟩) ⟨Nat.le_of_ble_eq_true rfl, Nat.le_of_ble_eq_true rfl⟩ dX16_pointing_12

set_option maxHeartbeats 4000000 in
theorem metX17_pointing_k1 {l : Launch} {X : gX} {F : gF} {V : gV} {Z : va_W} {rm tr tb i9 : Nat} {x : Int} {ra : Nat → Nat} {r : Rm} {t : List Int} (hrm : isRmk F ra rm 1 i9 r) (hT : xTr X V tr tb t) (hlen : t.length + 2 ≤ 20) : Met l yX17_pointing (ws_ yX17_pointing cX17_pointing 3 (some FieldType.int)) ({ frames := 2, cells := 0, slots := 0, locals := 43 }) (gP X F V (Z) [.ref rm, .int (zI x), .ref tr]) (gQi X (fun u G U ws => u = zI (x + (i9 : Int) + (rBy r : Int)) ∧ F = G ∧ xTr X U tr tb (t ++ [20, 10]) ∧ vx23 V U ∧ Z = ws)) 0 0 (gA X) := by
  refine Met.g (by decide) (Nat.le_of_ble_eq_true rfl) ?_
  intro p e s m below meth c ls hx hb hr hts hown hlocks hml hin hG hl
  have hl : lv_has ls 3 [(0, .ref rm), (1, .int (zI x)), (2, .ref tr)] := hl
  refine lv_aload_n hx hb dX17_pointing_0 rfl (lv_at hl 2 rfl) ?_
  refine lv_bipush (v := zI 20) hx hb dX17_pointing_1 (by decide +kernel) ?_
  refine g_cv (va_runV (As := [.int (zI 20)]) (rest := []) ⟨hx, hb, hml, hown, hts⟩ (metX1_runs (b := 20) hT (by omega)) (cwV 1 hts (lw_V q3197 q3191 q3192 q88 q3193) rfl rfl rfl (by decide +kernel) ⟨Nat.le_of_ble_eq_true rfl, Nat.le_of_ble_eq_true rfl⟩) (g_preV hG (g_recv hG (hG.vo hT.1) (ci := 1) rfl)) rfl rfl hl.1 rfl (lv_room (Nat.le_of_ble_eq_true rfl)) dX17_pointing_3 ⟨Nat.le_of_ble_eq_true rfl, Nat.le_of_ble_eq_true rfl⟩) hG (fun F_2 V_3 ws_ H locs hp hG => ?_)
  obtain ⟨rfl, hT1, hV1, rfl⟩ := hp
  have hG : gW X F V_3 (Z) s H locs := hG
  refine lv_aload_n hx hb dX17_pointing_6 rfl (lv_at hl 0 rfl) ?_
  refine lv_iload_n hx hb dX17_pointing_7 rfl (lv_at hl 1 rfl) ?_
  refine lv_aload_n hx hb dX17_pointing_8 rfl (lv_at hl 2 rfl) ?_
  refine g_ci (va_runSU (C := "LineRemarks$Point") (g_cls hG (ci := 15) rfl) (As := [.int (zI x), .ref tr]) (rest := []) ⟨hx, hb, hml, hown, hts⟩ (metX16_pointing_k1 hrm hT1 (by rw [List.length_append]; simp only [List.length_cons, List.length_nil]; omega)) (va_cwSU 2 hts (lw_SU q3198 q3185 q2113 q3183 q145 q3199) rfl rfl rfl (by decide +kernel) ⟨Nat.le_of_ble_eq_true rfl, Nat.le_of_ble_eq_true rfl⟩) (g_preV hG (g_recv hG (hG.fz (show F.1 rm = some (oB 15 _) from hrm)) (ci := 15) rfl)) rfl rfl hl.1 rfl (lv_room (Nat.le_of_ble_eq_true rfl)) dX17_pointing_9 ⟨Nat.le_of_ble_eq_true rfl, Nat.le_of_ble_eq_true rfl⟩) hG (fun r_4 F_5 V_6 ws_ H locs hp hG => ?_)
  obtain ⟨rfl, rfl, hT2, hV2, rfl⟩ := hp
  have hG : gW X F V_6 (Z) s H locs := hG
  refine lv_aload_n hx hb dX17_pointing_12 rfl (lv_at hl 0 rfl) ?_
  refine g_get (ci := 15) hx hb hts in_X17 hown hG (hG.fz (show F.1 rm = some (oB 15 _) from hrm)) rfl 1 (Nat.le_of_ble_eq_true rfl) (hts _ q2072) (u_same (hts _ q2073)) rfl dX17_pointing_13 ?_
  refine g_iadd hx hb dX17_pointing_16 ?_
  exact g_iret hx hb hr hlocks hG (⟨rfl, rfl, (hT2.app rfl), (hV1.tr hV2), rfl⟩) ⟨Nat.le_of_ble_eq_true rfl, Nat.le_of_ble_eq_true rfl⟩ dX17_pointing_17

set_option maxHeartbeats 4000000 in
theorem metX17_pointing_k3 {l : Launch} {X : gX} {F : gF} {V : gV} {Z : va_W} {rm tr tb i9 : Nat} {x : Int} {ra : Nat → Nat} {r : Rm} {t : List Int} (hrm : isRmk F ra rm 3 i9 r) (hT : xTr X V tr tb t) (hlen : t.length + 2 ≤ 20) : Met l yX17_pointing (ws_ yX17_pointing cX17_pointing 3 (some FieldType.int)) ({ frames := 2, cells := 0, slots := 0, locals := 43 }) (gP X F V (Z) [.ref rm, .int (zI x), .ref tr]) (gQi X (fun u G U ws => u = zI (x + (i9 : Int) + (rBy r : Int)) ∧ F = G ∧ xTr X U tr tb (t ++ [20, 10]) ∧ vx23 V U ∧ Z = ws)) 0 0 (gA X) := by
  refine Met.g (by decide) (Nat.le_of_ble_eq_true rfl) ?_
  intro p e s m below meth c ls hx hb hr hts hown hlocks hml hin hG hl
  have hl : lv_has ls 3 [(0, .ref rm), (1, .int (zI x)), (2, .ref tr)] := hl
  refine lv_aload_n hx hb dX17_pointing_0 rfl (lv_at hl 2 rfl) ?_
  refine lv_bipush (v := zI 20) hx hb dX17_pointing_1 (by decide +kernel) ?_
  refine g_cv (va_runV (As := [.int (zI 20)]) (rest := []) ⟨hx, hb, hml, hown, hts⟩ (metX1_runs (b := 20) hT (by omega)) (cwV 1 hts (lw_V q3197 q3191 q3192 q88 q3193) rfl rfl rfl (by decide +kernel) ⟨Nat.le_of_ble_eq_true rfl, Nat.le_of_ble_eq_true rfl⟩) (g_preV hG (g_recv hG (hG.vo hT.1) (ci := 1) rfl)) rfl rfl hl.1 rfl (lv_room (Nat.le_of_ble_eq_true rfl)) dX17_pointing_3 ⟨Nat.le_of_ble_eq_true rfl, Nat.le_of_ble_eq_true rfl⟩) hG (fun F_2 V_3 ws_ H locs hp hG => ?_)
  obtain ⟨rfl, hT1, hV1, rfl⟩ := hp
  have hG : gW X F V_3 (Z) s H locs := hG
  refine lv_aload_n hx hb dX17_pointing_6 rfl (lv_at hl 0 rfl) ?_
  refine lv_iload_n hx hb dX17_pointing_7 rfl (lv_at hl 1 rfl) ?_
  refine lv_aload_n hx hb dX17_pointing_8 rfl (lv_at hl 2 rfl) ?_
  refine g_ci (va_runSU (C := "LineRemarks$Caret") (g_cls hG (ci := 17) rfl) (As := [.int (zI x), .ref tr]) (rest := []) ⟨hx, hb, hml, hown, hts⟩ (metX16_pointing_k3 hrm hT1 (by rw [List.length_append]; simp only [List.length_cons, List.length_nil]; omega)) (va_cwSU 2 hts (lw_SU q3198 q3185 q2113 q3183 q145 q3199) rfl rfl rfl (by decide +kernel) ⟨Nat.le_of_ble_eq_true rfl, Nat.le_of_ble_eq_true rfl⟩) (g_preV hG (g_recv hG (hG.fz (show F.1 rm = some (oB 17 _) from hrm)) (ci := 17) rfl)) rfl rfl hl.1 rfl (lv_room (Nat.le_of_ble_eq_true rfl)) dX17_pointing_9 ⟨Nat.le_of_ble_eq_true rfl, Nat.le_of_ble_eq_true rfl⟩) hG (fun r_4 F_5 V_6 ws_ H locs hp hG => ?_)
  obtain ⟨rfl, rfl, hT2, hV2, rfl⟩ := hp
  have hG : gW X F V_6 (Z) s H locs := hG
  refine lv_aload_n hx hb dX17_pointing_12 rfl (lv_at hl 0 rfl) ?_
  refine g_get (ci := 17) hx hb hts in_X19 hown hG (hG.fz (show F.1 rm = some (oB 17 _) from hrm)) rfl 1 (Nat.le_of_ble_eq_true rfl) (hts _ q2072) (u_same (hts _ q2073)) rfl dX17_pointing_13 ?_
  refine g_iadd hx hb dX17_pointing_16 ?_
  exact g_iret hx hb hr hlocks hG (⟨rfl, rfl, (hT2.app rfl), (hV1.tr hV2), rfl⟩) ⟨Nat.le_of_ble_eq_true rfl, Nat.le_of_ble_eq_true rfl⟩ dX17_pointing_17

set_option maxHeartbeats 4000000 in
theorem metX17_pointing_k6 {l : Launch} {X : gX} {F : gF} {V : gV} {Z : va_W} {rm tr tb i9 : Nat} {x : Int} {ra : Nat → Nat} {r : Rm} {t : List Int} (hrm : isRmk F ra rm 6 i9 r) (hT : xTr X V tr tb t) (hlen : t.length + 2 ≤ 20) : Met l yX17_pointing (ws_ yX17_pointing cX17_pointing 3 (some FieldType.int)) ({ frames := 2, cells := 0, slots := 0, locals := 43 }) (gP X F V (Z) [.ref rm, .int (zI x), .ref tr]) (gQi X (fun u G U ws => u = zI (x + (i9 : Int) + (rBy r : Int)) ∧ F = G ∧ xTr X U tr tb (t ++ [20, 10]) ∧ vx23 V U ∧ Z = ws)) 0 0 (gA X) := by
  refine Met.g (by decide) (Nat.le_of_ble_eq_true rfl) ?_
  intro p e s m below meth c ls hx hb hr hts hown hlocks hml hin hG hl
  have hl : lv_has ls 3 [(0, .ref rm), (1, .int (zI x)), (2, .ref tr)] := hl
  refine lv_aload_n hx hb dX17_pointing_0 rfl (lv_at hl 2 rfl) ?_
  refine lv_bipush (v := zI 20) hx hb dX17_pointing_1 (by decide +kernel) ?_
  refine g_cv (va_runV (As := [.int (zI 20)]) (rest := []) ⟨hx, hb, hml, hown, hts⟩ (metX1_runs (b := 20) hT (by omega)) (cwV 1 hts (lw_V q3197 q3191 q3192 q88 q3193) rfl rfl rfl (by decide +kernel) ⟨Nat.le_of_ble_eq_true rfl, Nat.le_of_ble_eq_true rfl⟩) (g_preV hG (g_recv hG (hG.vo hT.1) (ci := 1) rfl)) rfl rfl hl.1 rfl (lv_room (Nat.le_of_ble_eq_true rfl)) dX17_pointing_3 ⟨Nat.le_of_ble_eq_true rfl, Nat.le_of_ble_eq_true rfl⟩) hG (fun F_2 V_3 ws_ H locs hp hG => ?_)
  obtain ⟨rfl, hT1, hV1, rfl⟩ := hp
  have hG : gW X F V_3 (Z) s H locs := hG
  refine lv_aload_n hx hb dX17_pointing_6 rfl (lv_at hl 0 rfl) ?_
  refine lv_iload_n hx hb dX17_pointing_7 rfl (lv_at hl 1 rfl) ?_
  refine lv_aload_n hx hb dX17_pointing_8 rfl (lv_at hl 2 rfl) ?_
  refine g_ci (va_runSU (C := "LineRemarks$Tail") (g_cls hG (ci := 20) rfl) (As := [.int (zI x), .ref tr]) (rest := []) ⟨hx, hb, hml, hown, hts⟩ (metX16_pointing_k6 hrm hT1 (by rw [List.length_append]; simp only [List.length_cons, List.length_nil]; omega)) (va_cwSU 2 hts (lw_SU q3198 q3185 q2113 q3183 q145 q3199) rfl rfl rfl (by decide +kernel) ⟨Nat.le_of_ble_eq_true rfl, Nat.le_of_ble_eq_true rfl⟩) (g_preV hG (g_recv hG (hG.fz (show F.1 rm = some (oB 20 _) from hrm)) (ci := 20) rfl)) rfl rfl hl.1 rfl (lv_room (Nat.le_of_ble_eq_true rfl)) dX17_pointing_9 ⟨Nat.le_of_ble_eq_true rfl, Nat.le_of_ble_eq_true rfl⟩) hG (fun r_4 F_5 V_6 ws_ H locs hp hG => ?_)
  obtain ⟨rfl, rfl, hT2, hV2, rfl⟩ := hp
  have hG : gW X F V_6 (Z) s H locs := hG
  refine lv_aload_n hx hb dX17_pointing_12 rfl (lv_at hl 0 rfl) ?_
  refine g_get (ci := 20) hx hb hts in_X22 hown hG (hG.fz (show F.1 rm = some (oB 20 _) from hrm)) rfl 1 (Nat.le_of_ble_eq_true rfl) (hts _ q2072) (u_same (hts _ q2073)) rfl dX17_pointing_13 ?_
  refine g_iadd hx hb dX17_pointing_16 ?_
  exact g_iret hx hb hr hlocks hG (⟨rfl, rfl, (hT2.app rfl), (hV1.tr hV2), rfl⟩) ⟨Nat.le_of_ble_eq_true rfl, Nat.le_of_ble_eq_true rfl⟩ dX17_pointing_17

set_option maxHeartbeats 4000000 in
theorem metX19_pointing_k3 {l : Launch} {X : gX} {F : gF} {V : gV} {Z : va_W} {rm tr tb i9 : Nat} {x : Int} {ra : Nat → Nat} {r : Rm} {t : List Int} (hrm : isRmk F ra rm 3 i9 r) (hT : xTr X V tr tb t) (hlen : t.length + 3 ≤ 20) : Met l yX19_pointing (ws_ yX19_pointing cX19_pointing 3 (some FieldType.int)) ({ frames := 3, cells := 0, slots := 0, locals := 65 }) (gP X F V (Z) [.ref rm, .int (zI x), .ref tr]) (gQi X (fun u G U ws => u = zI (x + 1 + (i9 : Int) + (rBy r : Int)) ∧ F = G ∧ xTr X U tr tb (t ++ [40, 20, 10]) ∧ vx23 V U ∧ Z = ws)) 0 0 (gA X) := by
  refine Met.g (by decide) (Nat.le_of_ble_eq_true rfl) ?_
  intro p e s m below meth c ls hx hb hr hts hown hlocks hml hin hG hl
  have hl : lv_has ls 3 [(0, .ref rm), (1, .int (zI x)), (2, .ref tr)] := hl
  refine lv_aload_n hx hb dX19_pointing_0 rfl (lv_at hl 2 rfl) ?_
  refine lv_bipush (v := zI 40) hx hb dX19_pointing_1 (by decide +kernel) ?_
  refine g_cv (va_runV (As := [.int (zI 40)]) (rest := []) ⟨hx, hb, hml, hown, hts⟩ (metX1_runs (b := 40) hT (by omega)) (cwV 1 hts (lw_V q3190 q3191 q3192 q88 q3193) rfl rfl rfl (by decide +kernel) ⟨Nat.le_of_ble_eq_true rfl, Nat.le_of_ble_eq_true rfl⟩) (g_preV hG (g_recv hG (hG.vo hT.1) (ci := 1) rfl)) rfl rfl hl.1 rfl (lv_room (Nat.le_of_ble_eq_true rfl)) dX19_pointing_3 ⟨Nat.le_of_ble_eq_true rfl, Nat.le_of_ble_eq_true rfl⟩) hG (fun F_2 V_3 ws_ H locs hp hG => ?_)
  obtain ⟨rfl, hT1, hV1, rfl⟩ := hp
  have hG : gW X F V_3 (Z) s H locs := hG
  refine lv_aload_n hx hb dX19_pointing_6 rfl (lv_at hl 0 rfl) ?_
  refine lv_iload_n hx hb dX19_pointing_7 rfl (lv_at hl 1 rfl) ?_
  refine lv_iconst (v := zI 1) hx hb dX19_pointing_8 (by decide +kernel) ?_
  refine g_iadd hx hb dX19_pointing_9 ?_
  refine lv_aload_n hx hb dX19_pointing_10 rfl (lv_at hl 2 rfl) ?_
  refine g_ci (va_runSU (C := "LineRemarks$Caret") (g_cls hG (ci := 17) rfl) (As := [.int (zI (x + 1)), .ref tr]) (rest := []) ⟨hx, hb, hml, hown, hts⟩ (metX17_pointing_k3 hrm hT1 (by rw [List.length_append]; simp only [List.length_cons, List.length_nil]; omega)) (va_cwSU 2 hts (lw_SU q3194 q3778 q2139 q3195 q146 q3196) rfl rfl rfl (by decide +kernel) ⟨Nat.le_of_ble_eq_true rfl, Nat.le_of_ble_eq_true rfl⟩) (g_preV hG (g_recv hG (hG.fz (show F.1 rm = some (oB 17 _) from hrm)) (ci := 17) rfl)) rfl rfl hl.1 rfl (lv_room (Nat.le_of_ble_eq_true rfl)) dX19_pointing_11 ⟨Nat.le_of_ble_eq_true rfl, Nat.le_of_ble_eq_true rfl⟩) hG (fun r_4 F_5 V_6 ws_ H locs hp hG => ?_)
  obtain ⟨rfl, rfl, hT2, hV2, rfl⟩ := hp
  have hG : gW X F V_6 (Z) s H locs := hG
  exact g_iret hx hb hr hlocks hG (⟨rfl, rfl, (hT2.app rfl), (hV1.tr hV2), rfl⟩) ⟨Nat.le_of_ble_eq_true rfl, Nat.le_of_ble_eq_true rfl⟩ dX19_pointing_14

set_option maxHeartbeats 4000000 in
theorem metX19_pointing_k6 {l : Launch} {X : gX} {F : gF} {V : gV} {Z : va_W} {rm tr tb i9 : Nat} {x : Int} {ra : Nat → Nat} {r : Rm} {t : List Int} (hrm : isRmk F ra rm 6 i9 r) (hT : xTr X V tr tb t) (hlen : t.length + 3 ≤ 20) : Met l yX19_pointing (ws_ yX19_pointing cX19_pointing 3 (some FieldType.int)) ({ frames := 3, cells := 0, slots := 0, locals := 65 }) (gP X F V (Z) [.ref rm, .int (zI x), .ref tr]) (gQi X (fun u G U ws => u = zI (x + 1 + (i9 : Int) + (rBy r : Int)) ∧ F = G ∧ xTr X U tr tb (t ++ [40, 20, 10]) ∧ vx23 V U ∧ Z = ws)) 0 0 (gA X) := by
  refine Met.g (by decide) (Nat.le_of_ble_eq_true rfl) ?_
  intro p e s m below meth c ls hx hb hr hts hown hlocks hml hin hG hl
  have hl : lv_has ls 3 [(0, .ref rm), (1, .int (zI x)), (2, .ref tr)] := hl
  refine lv_aload_n hx hb dX19_pointing_0 rfl (lv_at hl 2 rfl) ?_
  refine lv_bipush (v := zI 40) hx hb dX19_pointing_1 (by decide +kernel) ?_
  refine g_cv (va_runV (As := [.int (zI 40)]) (rest := []) ⟨hx, hb, hml, hown, hts⟩ (metX1_runs (b := 40) hT (by omega)) (cwV 1 hts (lw_V q3190 q3191 q3192 q88 q3193) rfl rfl rfl (by decide +kernel) ⟨Nat.le_of_ble_eq_true rfl, Nat.le_of_ble_eq_true rfl⟩) (g_preV hG (g_recv hG (hG.vo hT.1) (ci := 1) rfl)) rfl rfl hl.1 rfl (lv_room (Nat.le_of_ble_eq_true rfl)) dX19_pointing_3 ⟨Nat.le_of_ble_eq_true rfl, Nat.le_of_ble_eq_true rfl⟩) hG (fun F_2 V_3 ws_ H locs hp hG => ?_)
  obtain ⟨rfl, hT1, hV1, rfl⟩ := hp
  have hG : gW X F V_3 (Z) s H locs := hG
  refine lv_aload_n hx hb dX19_pointing_6 rfl (lv_at hl 0 rfl) ?_
  refine lv_iload_n hx hb dX19_pointing_7 rfl (lv_at hl 1 rfl) ?_
  refine lv_iconst (v := zI 1) hx hb dX19_pointing_8 (by decide +kernel) ?_
  refine g_iadd hx hb dX19_pointing_9 ?_
  refine lv_aload_n hx hb dX19_pointing_10 rfl (lv_at hl 2 rfl) ?_
  refine g_ci (va_runSU (C := "LineRemarks$Tail") (g_cls hG (ci := 20) rfl) (As := [.int (zI (x + 1)), .ref tr]) (rest := []) ⟨hx, hb, hml, hown, hts⟩ (metX17_pointing_k6 hrm hT1 (by rw [List.length_append]; simp only [List.length_cons, List.length_nil]; omega)) (va_cwSU 2 hts (lw_SU q3194 q3778 q2139 q3195 q146 q3196) rfl rfl rfl (by decide +kernel) ⟨Nat.le_of_ble_eq_true rfl, Nat.le_of_ble_eq_true rfl⟩) (g_preV hG (g_recv hG (hG.fz (show F.1 rm = some (oB 20 _) from hrm)) (ci := 20) rfl)) rfl rfl hl.1 rfl (lv_room (Nat.le_of_ble_eq_true rfl)) dX19_pointing_11 ⟨Nat.le_of_ble_eq_true rfl, Nat.le_of_ble_eq_true rfl⟩) hG (fun r_4 F_5 V_6 ws_ H locs hp hG => ?_)
  obtain ⟨rfl, rfl, hT2, hV2, rfl⟩ := hp
  have hG : gW X F V_6 (Z) s H locs := hG
  exact g_iret hx hb hr hlocks hG (⟨rfl, rfl, (hT2.app rfl), (hV1.tr hV2), rfl⟩) ⟨Nat.le_of_ble_eq_true rfl, Nat.le_of_ble_eq_true rfl⟩ dX19_pointing_14

set_option maxHeartbeats 4000000 in
theorem metX20_pointing_k4 {l : Launch} {X : gX} {F : gF} {V : gV} {Z : va_W} {rm tr tb i9 : Nat} {x : Int} {ra : Nat → Nat} {r : Rm} {t : List Int} (hrm : isRmk F ra rm 4 i9 r) (hT : xTr X V tr tb t) (hlen : t.length + 2 ≤ 20) : Met l yX20_pointing (ws_ yX20_pointing cX20_pointing 3 (some FieldType.int)) ({ frames := 2, cells := 0, slots := 0, locals := 43 }) (gP X F V (Z) [.ref rm, .int (zI x), .ref tr]) (gQi X (fun u G U ws => u = zI (x + (i9 : Int) - (i9 : Int)) ∧ F = G ∧ xTr X U tr tb (t ++ [51, 10]) ∧ vx23 V U ∧ Z = ws)) 0 0 (gA X) := by
  refine Met.g (by decide) (Nat.le_of_ble_eq_true rfl) ?_
  intro p e s m below meth c ls hx hb hr hts hown hlocks hml hin hG hl
  have hl : lv_has ls 3 [(0, .ref rm), (1, .int (zI x)), (2, .ref tr)] := hl
  refine lv_aload_n hx hb dX20_pointing_0 rfl (lv_at hl 2 rfl) ?_
  refine lv_bipush (v := zI 51) hx hb dX20_pointing_1 (by decide +kernel) ?_
  refine g_cv (va_runV (As := [.int (zI 51)]) (rest := []) ⟨hx, hb, hml, hown, hts⟩ (metX1_runs (b := 51) hT (by omega)) (cwV 1 hts (lw_V q3204 q3191 q3192 q88 q3193) rfl rfl rfl (by decide +kernel) ⟨Nat.le_of_ble_eq_true rfl, Nat.le_of_ble_eq_true rfl⟩) (g_preV hG (g_recv hG (hG.vo hT.1) (ci := 1) rfl)) rfl rfl hl.1 rfl (lv_room (Nat.le_of_ble_eq_true rfl)) dX20_pointing_3 ⟨Nat.le_of_ble_eq_true rfl, Nat.le_of_ble_eq_true rfl⟩) hG (fun F_2 V_3 ws_ H locs hp hG => ?_)
  obtain ⟨rfl, hT1, hV1, rfl⟩ := hp
  have hG : gW X F V_3 (Z) s H locs := hG
  refine lv_aload_n hx hb dX20_pointing_6 rfl (lv_at hl 0 rfl) ?_
  refine lv_iload_n hx hb dX20_pointing_7 rfl (lv_at hl 1 rfl) ?_
  refine lv_aload_n hx hb dX20_pointing_8 rfl (lv_at hl 2 rfl) ?_
  refine g_ci (va_runSU (C := "LineRemarks$Loose") (g_cls hG (ci := 18) rfl) (As := [.int (zI x), .ref tr]) (rest := []) ⟨hx, hb, hml, hown, hts⟩ (metX16_pointing_k4 hrm hT1 (by rw [List.length_append]; simp only [List.length_cons, List.length_nil]; omega)) (va_cwSU 2 hts (lw_SU q3205 q3185 q2152 q3183 q145 q3199) rfl rfl rfl (by decide +kernel) ⟨Nat.le_of_ble_eq_true rfl, Nat.le_of_ble_eq_true rfl⟩) (g_preV hG (g_recv hG (hG.fz (show F.1 rm = some (oB 18 _) from hrm)) (ci := 18) rfl)) rfl rfl hl.1 rfl (lv_room (Nat.le_of_ble_eq_true rfl)) dX20_pointing_9 ⟨Nat.le_of_ble_eq_true rfl, Nat.le_of_ble_eq_true rfl⟩) hG (fun r_4 F_5 V_6 ws_ H locs hp hG => ?_)
  obtain ⟨rfl, rfl, hT2, hV2, rfl⟩ := hp
  have hG : gW X F V_6 (Z) s H locs := hG
  refine lv_aload_n hx hb dX20_pointing_12 rfl (lv_at hl 0 rfl) ?_
  refine g_get (ci := 18) hx hb hts in_X20 hown hG (hG.fz (show F.1 rm = some (oB 18 _) from hrm)) rfl 0 (Nat.le_of_ble_eq_true rfl) (hts _ q2064) (u_same (hts _ q2065)) rfl dX20_pointing_13 ?_
  refine g_isub hx hb dX20_pointing_16 ?_
  exact g_iret hx hb hr hlocks hG (⟨rfl, rfl, (hT2.app rfl), (hV1.tr hV2), rfl⟩) ⟨Nat.le_of_ble_eq_true rfl, Nat.le_of_ble_eq_true rfl⟩ dX20_pointing_17

set_option maxHeartbeats 4000000 in
theorem metX22_pointing_k6 {l : Launch} {X : gX} {F : gF} {V : gV} {Z : va_W} {rm tr tb i9 : Nat} {x : Int} {ra : Nat → Nat} {r : Rm} {t : List Int} (hrm : isRmk F ra rm 6 i9 r) (hT : xTr X V tr tb t) (hlen : t.length + 4 ≤ 20) : Met l yX22_pointing (ws_ yX22_pointing cX22_pointing 3 (some FieldType.int)) ({ frames := 4, cells := 0, slots := 0, locals := 87 }) (gP X F V (Z) [.ref rm, .int (zI x), .ref tr]) (gQi X (fun u G U ws => u = zI ((x + 1 + (i9 : Int) + (rBy r : Int)) * 2) ∧ F = G ∧ xTr X U tr tb (t ++ [70, 40, 20, 10]) ∧ vx23 V U ∧ Z = ws)) 0 0 (gA X) := by
  refine Met.g (by decide) (Nat.le_of_ble_eq_true rfl) ?_
  intro p e s m below meth c ls hx hb hr hts hown hlocks hml hin hG hl
  have hl : lv_has ls 3 [(0, .ref rm), (1, .int (zI x)), (2, .ref tr)] := hl
  refine lv_aload_n hx hb dX22_pointing_0 rfl (lv_at hl 2 rfl) ?_
  refine lv_bipush (v := zI 70) hx hb dX22_pointing_1 (by decide +kernel) ?_
  refine g_cv (va_runV (As := [.int (zI 70)]) (rest := []) ⟨hx, hb, hml, hown, hts⟩ (metX1_runs (b := 70) hT (by omega)) (cwV 1 hts (lw_V q3210 q3191 q3192 q88 q3193) rfl rfl rfl (by decide +kernel) ⟨Nat.le_of_ble_eq_true rfl, Nat.le_of_ble_eq_true rfl⟩) (g_preV hG (g_recv hG (hG.vo hT.1) (ci := 1) rfl)) rfl rfl hl.1 rfl (lv_room (Nat.le_of_ble_eq_true rfl)) dX22_pointing_3 ⟨Nat.le_of_ble_eq_true rfl, Nat.le_of_ble_eq_true rfl⟩) hG (fun F_2 V_3 ws_ H locs hp hG => ?_)
  obtain ⟨rfl, hT1, hV1, rfl⟩ := hp
  have hG : gW X F V_3 (Z) s H locs := hG
  refine lv_aload_n hx hb dX22_pointing_6 rfl (lv_at hl 0 rfl) ?_
  refine lv_iload_n hx hb dX22_pointing_7 rfl (lv_at hl 1 rfl) ?_
  refine lv_aload_n hx hb dX22_pointing_8 rfl (lv_at hl 2 rfl) ?_
  refine g_ci (va_runSU (C := "LineRemarks$Tail") (g_cls hG (ci := 20) rfl) (As := [.int (zI x), .ref tr]) (rest := []) ⟨hx, hb, hml, hown, hts⟩ (metX19_pointing_k6 hrm hT1 (by rw [List.length_append]; simp only [List.length_cons, List.length_nil]; omega)) (va_cwSU 2 hts (lw_SU q3211 q3779 q2178 q3188 q148 q3189) rfl rfl rfl (by decide +kernel) ⟨Nat.le_of_ble_eq_true rfl, Nat.le_of_ble_eq_true rfl⟩) (g_preV hG (g_recv hG (hG.fz (show F.1 rm = some (oB 20 _) from hrm)) (ci := 20) rfl)) rfl rfl hl.1 rfl (lv_room (Nat.le_of_ble_eq_true rfl)) dX22_pointing_9 ⟨Nat.le_of_ble_eq_true rfl, Nat.le_of_ble_eq_true rfl⟩) hG (fun r_4 F_5 V_6 ws_ H locs hp hG => ?_)
  obtain ⟨rfl, rfl, hT2, hV2, rfl⟩ := hp
  have hG : gW X F V_6 (Z) s H locs := hG
  refine lv_iconst (v := zI 2) hx hb dX22_pointing_12 (by decide +kernel) ?_
  refine g_imul hx hb dX22_pointing_13 ?_
  exact g_iret hx hb hr hlocks hG (⟨rfl, rfl, (hT2.app rfl), (hV1.tr hV2), rfl⟩) ⟨Nat.le_of_ble_eq_true rfl, Nat.le_of_ble_eq_true rfl⟩ dX22_pointing_14

set_option maxHeartbeats 4000000 in
theorem metX16_weighing_k0 {l : Launch} {X : gX} {F : gF} {V : gV} {Z : va_W} {rm tr tb i9 : Nat} {x : Int} {ra : Nat → Nat} {r : Rm} {t : List Int} (hrm : isRmk F ra rm 0 i9 r) (hT : xTr X V tr tb t) (hlen : t.length + 2 ≤ 20) : Met l yX16_weighing (ws_ yX16_weighing cX16_weighing 3 (some FieldType.int)) ({ frames := 2, cells := 0, slots := 0, locals := 43 }) (gP X F V (Z) [.ref rm, .int (zI x), .ref tr]) (gQi X (fun u G U ws => u = zI ((x + (i9 : Int)) * 2) ∧ F = G ∧ xTr X U tr tb (t ++ [11, 10]) ∧ vx23 V U ∧ Z = ws)) 0 0 (gA X) := by
  refine Met.g (by decide) (Nat.le_of_ble_eq_true rfl) ?_
  intro p e s m below meth c ls hx hb hr hts hown hlocks hml hin hG hl
  have hl : lv_has ls 3 [(0, .ref rm), (1, .int (zI x)), (2, .ref tr)] := hl
  refine lv_aload_n hx hb dX16_weighing_0 rfl (lv_at hl 2 rfl) ?_
  refine lv_bipush (v := zI 11) hx hb dX16_weighing_1 (by decide +kernel) ?_
  refine g_cv (va_runV (As := [.int (zI 11)]) (rest := []) ⟨hx, hb, hml, hown, hts⟩ (metX1_runs (b := 11) hT (by omega)) (cwV 1 hts (lw_V q3200 q3191 q3192 q88 q3193) rfl rfl rfl (by decide +kernel) ⟨Nat.le_of_ble_eq_true rfl, Nat.le_of_ble_eq_true rfl⟩) (g_preV hG (g_recv hG (hG.vo hT.1) (ci := 1) rfl)) rfl rfl hl.1 rfl (lv_room (Nat.le_of_ble_eq_true rfl)) dX16_weighing_3 ⟨Nat.le_of_ble_eq_true rfl, Nat.le_of_ble_eq_true rfl⟩) hG (fun F_2 V_3 ws_ H locs hp hG => ?_)
  obtain ⟨rfl, hT1, hV1, rfl⟩ := hp
  have hG : gW X F V_3 (Z) s H locs := hG
  refine lv_aload_n hx hb dX16_weighing_6 rfl (lv_at hl 0 rfl) ?_
  refine lv_iload_n hx hb dX16_weighing_7 rfl (lv_at hl 1 rfl) ?_
  refine lv_aload_n hx hb dX16_weighing_8 rfl (lv_at hl 2 rfl) ?_
  refine g_ci (va_runV (As := [.int (zI x), .ref tr]) (rest := []) ⟨hx, hb, hml, hown, hts⟩ (metX16_pointing_k0 hrm hT1 (by rw [List.length_append]; simp only [List.length_cons, List.length_nil]; omega)) (cwV 2 hts (lw_V q3223 q3183 q3184 q145 q3199) rfl rfl rfl (by decide +kernel) ⟨Nat.le_of_ble_eq_true rfl, Nat.le_of_ble_eq_true rfl⟩) (g_preV hG (g_recv hG (hG.fz (show F.1 rm = some (oB 14 _) from hrm)) (ci := 14) rfl)) rfl rfl hl.1 rfl (lv_room (Nat.le_of_ble_eq_true rfl)) dX16_weighing_9 ⟨Nat.le_of_ble_eq_true rfl, Nat.le_of_ble_eq_true rfl⟩) hG (fun r_4 F_5 V_6 ws_ H locs hp hG => ?_)
  obtain ⟨rfl, rfl, hT2, hV2, rfl⟩ := hp
  have hG : gW X F V_6 (Z) s H locs := hG
  refine lv_iconst (v := zI 2) hx hb dX16_weighing_12 (by decide +kernel) ?_
  refine g_imul hx hb dX16_weighing_13 ?_
  exact g_iret hx hb hr hlocks hG (⟨rfl, rfl, (hT2.app rfl), (hV1.tr hV2), rfl⟩) ⟨Nat.le_of_ble_eq_true rfl, Nat.le_of_ble_eq_true rfl⟩ dX16_weighing_14

set_option maxHeartbeats 4000000 in
theorem metX16_weighing_k1 {l : Launch} {X : gX} {F : gF} {V : gV} {Z : va_W} {rm tr tb i9 : Nat} {x : Int} {ra : Nat → Nat} {r : Rm} {t : List Int} (hrm : isRmk F ra rm 1 i9 r) (hT : xTr X V tr tb t) (hlen : t.length + 3 ≤ 20) : Met l yX16_weighing (ws_ yX16_weighing cX16_weighing 3 (some FieldType.int)) ({ frames := 3, cells := 0, slots := 0, locals := 65 }) (gP X F V (Z) [.ref rm, .int (zI x), .ref tr]) (gQi X (fun u G U ws => u = zI ((x + (i9 : Int) + (rBy r : Int)) * 2) ∧ F = G ∧ xTr X U tr tb (t ++ [11, 20, 10]) ∧ vx23 V U ∧ Z = ws)) 0 0 (gA X) := by
  refine Met.g (by decide) (Nat.le_of_ble_eq_true rfl) ?_
  intro p e s m below meth c ls hx hb hr hts hown hlocks hml hin hG hl
  have hl : lv_has ls 3 [(0, .ref rm), (1, .int (zI x)), (2, .ref tr)] := hl
  refine lv_aload_n hx hb dX16_weighing_0 rfl (lv_at hl 2 rfl) ?_
  refine lv_bipush (v := zI 11) hx hb dX16_weighing_1 (by decide +kernel) ?_
  refine g_cv (va_runV (As := [.int (zI 11)]) (rest := []) ⟨hx, hb, hml, hown, hts⟩ (metX1_runs (b := 11) hT (by omega)) (cwV 1 hts (lw_V q3200 q3191 q3192 q88 q3193) rfl rfl rfl (by decide +kernel) ⟨Nat.le_of_ble_eq_true rfl, Nat.le_of_ble_eq_true rfl⟩) (g_preV hG (g_recv hG (hG.vo hT.1) (ci := 1) rfl)) rfl rfl hl.1 rfl (lv_room (Nat.le_of_ble_eq_true rfl)) dX16_weighing_3 ⟨Nat.le_of_ble_eq_true rfl, Nat.le_of_ble_eq_true rfl⟩) hG (fun F_2 V_3 ws_ H locs hp hG => ?_)
  obtain ⟨rfl, hT1, hV1, rfl⟩ := hp
  have hG : gW X F V_3 (Z) s H locs := hG
  refine lv_aload_n hx hb dX16_weighing_6 rfl (lv_at hl 0 rfl) ?_
  refine lv_iload_n hx hb dX16_weighing_7 rfl (lv_at hl 1 rfl) ?_
  refine lv_aload_n hx hb dX16_weighing_8 rfl (lv_at hl 2 rfl) ?_
  refine g_ci (va_runU (C := "LineRemarks$Point") (As := [.int (zI x), .ref tr]) (rest := []) ⟨hx, hb, hml, hown, hts⟩ (metX17_pointing_k1 hrm hT1 (by rw [List.length_append]; simp only [List.length_cons, List.length_nil]; omega)) (va_cwO 2 hts (lw_O q3223 q3185 q3183 q3206 q3195 q146 q3196) rfl rfl rfl q3199 (by decide +kernel) ⟨Nat.le_of_ble_eq_true rfl, Nat.le_of_ble_eq_true rfl⟩) (g_preV hG (g_recv hG (hG.fz (show F.1 rm = some (oB 15 _) from hrm)) (ci := 15) rfl)) rfl rfl hl.1 rfl (lv_room (Nat.le_of_ble_eq_true rfl)) dX16_weighing_9 ⟨Nat.le_of_ble_eq_true rfl, Nat.le_of_ble_eq_true rfl⟩) hG (fun r_4 F_5 V_6 ws_ H locs hp hG => ?_)
  obtain ⟨rfl, rfl, hT2, hV2, rfl⟩ := hp
  have hG : gW X F V_6 (Z) s H locs := hG
  refine lv_iconst (v := zI 2) hx hb dX16_weighing_12 (by decide +kernel) ?_
  refine g_imul hx hb dX16_weighing_13 ?_
  exact g_iret hx hb hr hlocks hG (⟨rfl, rfl, (hT2.app rfl), (hV1.tr hV2), rfl⟩) ⟨Nat.le_of_ble_eq_true rfl, Nat.le_of_ble_eq_true rfl⟩ dX16_weighing_14

set_option maxHeartbeats 4000000 in
theorem metX16_weighing_k2 {l : Launch} {X : gX} {F : gF} {V : gV} {Z : va_W} {rm tr tb i9 : Nat} {x : Int} {ra : Nat → Nat} {r : Rm} {t : List Int} (hrm : isRmk F ra rm 2 i9 r) (hT : xTr X V tr tb t) (hlen : t.length + 2 ≤ 20) : Met l yX16_weighing (ws_ yX16_weighing cX16_weighing 3 (some FieldType.int)) ({ frames := 2, cells := 0, slots := 0, locals := 43 }) (gP X F V (Z) [.ref rm, .int (zI x), .ref tr]) (gQi X (fun u G U ws => u = zI ((x + (i9 : Int)) * 2) ∧ F = G ∧ xTr X U tr tb (t ++ [11, 10]) ∧ vx23 V U ∧ Z = ws)) 0 0 (gA X) := by
  refine Met.g (by decide) (Nat.le_of_ble_eq_true rfl) ?_
  intro p e s m below meth c ls hx hb hr hts hown hlocks hml hin hG hl
  have hl : lv_has ls 3 [(0, .ref rm), (1, .int (zI x)), (2, .ref tr)] := hl
  refine lv_aload_n hx hb dX16_weighing_0 rfl (lv_at hl 2 rfl) ?_
  refine lv_bipush (v := zI 11) hx hb dX16_weighing_1 (by decide +kernel) ?_
  refine g_cv (va_runV (As := [.int (zI 11)]) (rest := []) ⟨hx, hb, hml, hown, hts⟩ (metX1_runs (b := 11) hT (by omega)) (cwV 1 hts (lw_V q3200 q3191 q3192 q88 q3193) rfl rfl rfl (by decide +kernel) ⟨Nat.le_of_ble_eq_true rfl, Nat.le_of_ble_eq_true rfl⟩) (g_preV hG (g_recv hG (hG.vo hT.1) (ci := 1) rfl)) rfl rfl hl.1 rfl (lv_room (Nat.le_of_ble_eq_true rfl)) dX16_weighing_3 ⟨Nat.le_of_ble_eq_true rfl, Nat.le_of_ble_eq_true rfl⟩) hG (fun F_2 V_3 ws_ H locs hp hG => ?_)
  obtain ⟨rfl, hT1, hV1, rfl⟩ := hp
  have hG : gW X F V_3 (Z) s H locs := hG
  refine lv_aload_n hx hb dX16_weighing_6 rfl (lv_at hl 0 rfl) ?_
  refine lv_iload_n hx hb dX16_weighing_7 rfl (lv_at hl 1 rfl) ?_
  refine lv_aload_n hx hb dX16_weighing_8 rfl (lv_at hl 2 rfl) ?_
  refine g_ci (va_runU (C := "LineRemarks$Block") (As := [.int (zI x), .ref tr]) (rest := []) ⟨hx, hb, hml, hown, hts⟩ (metX16_pointing_k2 hrm hT1 (by rw [List.length_append]; simp only [List.length_cons, List.length_nil]; omega)) (va_cwU 2 hts (lw_U q3223 q3185 q3186 q3183 q145 q3199) rfl rfl rfl rfl (by decide +kernel) ⟨Nat.le_of_ble_eq_true rfl, Nat.le_of_ble_eq_true rfl⟩) (g_preV hG (g_recv hG (hG.fz (show F.1 rm = some (oB 16 _) from hrm)) (ci := 16) rfl)) rfl rfl hl.1 rfl (lv_room (Nat.le_of_ble_eq_true rfl)) dX16_weighing_9 ⟨Nat.le_of_ble_eq_true rfl, Nat.le_of_ble_eq_true rfl⟩) hG (fun r_4 F_5 V_6 ws_ H locs hp hG => ?_)
  obtain ⟨rfl, rfl, hT2, hV2, rfl⟩ := hp
  have hG : gW X F V_6 (Z) s H locs := hG
  refine lv_iconst (v := zI 2) hx hb dX16_weighing_12 (by decide +kernel) ?_
  refine g_imul hx hb dX16_weighing_13 ?_
  exact g_iret hx hb hr hlocks hG (⟨rfl, rfl, (hT2.app rfl), (hV1.tr hV2), rfl⟩) ⟨Nat.le_of_ble_eq_true rfl, Nat.le_of_ble_eq_true rfl⟩ dX16_weighing_14

set_option maxHeartbeats 4000000 in
theorem metX16_weighing_k3 {l : Launch} {X : gX} {F : gF} {V : gV} {Z : va_W} {rm tr tb i9 : Nat} {x : Int} {ra : Nat → Nat} {r : Rm} {t : List Int} (hrm : isRmk F ra rm 3 i9 r) (hT : xTr X V tr tb t) (hlen : t.length + 4 ≤ 20) : Met l yX16_weighing (ws_ yX16_weighing cX16_weighing 3 (some FieldType.int)) ({ frames := 4, cells := 0, slots := 0, locals := 87 }) (gP X F V (Z) [.ref rm, .int (zI x), .ref tr]) (gQi X (fun u G U ws => u = zI ((x + 1 + (i9 : Int) + (rBy r : Int)) * 2) ∧ F = G ∧ xTr X U tr tb (t ++ [11, 40, 20, 10]) ∧ vx23 V U ∧ Z = ws)) 0 0 (gA X) := by
  refine Met.g (by decide) (Nat.le_of_ble_eq_true rfl) ?_
  intro p e s m below meth c ls hx hb hr hts hown hlocks hml hin hG hl
  have hl : lv_has ls 3 [(0, .ref rm), (1, .int (zI x)), (2, .ref tr)] := hl
  refine lv_aload_n hx hb dX16_weighing_0 rfl (lv_at hl 2 rfl) ?_
  refine lv_bipush (v := zI 11) hx hb dX16_weighing_1 (by decide +kernel) ?_
  refine g_cv (va_runV (As := [.int (zI 11)]) (rest := []) ⟨hx, hb, hml, hown, hts⟩ (metX1_runs (b := 11) hT (by omega)) (cwV 1 hts (lw_V q3200 q3191 q3192 q88 q3193) rfl rfl rfl (by decide +kernel) ⟨Nat.le_of_ble_eq_true rfl, Nat.le_of_ble_eq_true rfl⟩) (g_preV hG (g_recv hG (hG.vo hT.1) (ci := 1) rfl)) rfl rfl hl.1 rfl (lv_room (Nat.le_of_ble_eq_true rfl)) dX16_weighing_3 ⟨Nat.le_of_ble_eq_true rfl, Nat.le_of_ble_eq_true rfl⟩) hG (fun F_2 V_3 ws_ H locs hp hG => ?_)
  obtain ⟨rfl, hT1, hV1, rfl⟩ := hp
  have hG : gW X F V_3 (Z) s H locs := hG
  refine lv_aload_n hx hb dX16_weighing_6 rfl (lv_at hl 0 rfl) ?_
  refine lv_iload_n hx hb dX16_weighing_7 rfl (lv_at hl 1 rfl) ?_
  refine lv_aload_n hx hb dX16_weighing_8 rfl (lv_at hl 2 rfl) ?_
  refine g_ci (va_runU (C := "LineRemarks$Caret") (As := [.int (zI x), .ref tr]) (rest := []) ⟨hx, hb, hml, hown, hts⟩ (metX19_pointing_k3 hrm hT1 (by rw [List.length_append]; simp only [List.length_cons, List.length_nil]; omega)) (va_cwO 2 hts (lw_O q3223 q3185 q3183 q3187 q3188 q148 q3189) rfl rfl rfl q3199 (by decide +kernel) ⟨Nat.le_of_ble_eq_true rfl, Nat.le_of_ble_eq_true rfl⟩) (g_preV hG (g_recv hG (hG.fz (show F.1 rm = some (oB 17 _) from hrm)) (ci := 17) rfl)) rfl rfl hl.1 rfl (lv_room (Nat.le_of_ble_eq_true rfl)) dX16_weighing_9 ⟨Nat.le_of_ble_eq_true rfl, Nat.le_of_ble_eq_true rfl⟩) hG (fun r_4 F_5 V_6 ws_ H locs hp hG => ?_)
  obtain ⟨rfl, rfl, hT2, hV2, rfl⟩ := hp
  have hG : gW X F V_6 (Z) s H locs := hG
  refine lv_iconst (v := zI 2) hx hb dX16_weighing_12 (by decide +kernel) ?_
  refine g_imul hx hb dX16_weighing_13 ?_
  exact g_iret hx hb hr hlocks hG (⟨rfl, rfl, (hT2.app rfl), (hV1.tr hV2), rfl⟩) ⟨Nat.le_of_ble_eq_true rfl, Nat.le_of_ble_eq_true rfl⟩ dX16_weighing_14

set_option maxHeartbeats 4000000 in
theorem metX16_weighing_k4 {l : Launch} {X : gX} {F : gF} {V : gV} {Z : va_W} {rm tr tb i9 : Nat} {x : Int} {ra : Nat → Nat} {r : Rm} {t : List Int} (hrm : isRmk F ra rm 4 i9 r) (hT : xTr X V tr tb t) (hlen : t.length + 3 ≤ 20) : Met l yX16_weighing (ws_ yX16_weighing cX16_weighing 3 (some FieldType.int)) ({ frames := 3, cells := 0, slots := 0, locals := 65 }) (gP X F V (Z) [.ref rm, .int (zI x), .ref tr]) (gQi X (fun u G U ws => u = zI ((x + (i9 : Int) - (i9 : Int)) * 2) ∧ F = G ∧ xTr X U tr tb (t ++ [11, 51, 10]) ∧ vx23 V U ∧ Z = ws)) 0 0 (gA X) := by
  refine Met.g (by decide) (Nat.le_of_ble_eq_true rfl) ?_
  intro p e s m below meth c ls hx hb hr hts hown hlocks hml hin hG hl
  have hl : lv_has ls 3 [(0, .ref rm), (1, .int (zI x)), (2, .ref tr)] := hl
  refine lv_aload_n hx hb dX16_weighing_0 rfl (lv_at hl 2 rfl) ?_
  refine lv_bipush (v := zI 11) hx hb dX16_weighing_1 (by decide +kernel) ?_
  refine g_cv (va_runV (As := [.int (zI 11)]) (rest := []) ⟨hx, hb, hml, hown, hts⟩ (metX1_runs (b := 11) hT (by omega)) (cwV 1 hts (lw_V q3200 q3191 q3192 q88 q3193) rfl rfl rfl (by decide +kernel) ⟨Nat.le_of_ble_eq_true rfl, Nat.le_of_ble_eq_true rfl⟩) (g_preV hG (g_recv hG (hG.vo hT.1) (ci := 1) rfl)) rfl rfl hl.1 rfl (lv_room (Nat.le_of_ble_eq_true rfl)) dX16_weighing_3 ⟨Nat.le_of_ble_eq_true rfl, Nat.le_of_ble_eq_true rfl⟩) hG (fun F_2 V_3 ws_ H locs hp hG => ?_)
  obtain ⟨rfl, hT1, hV1, rfl⟩ := hp
  have hG : gW X F V_3 (Z) s H locs := hG
  refine lv_aload_n hx hb dX16_weighing_6 rfl (lv_at hl 0 rfl) ?_
  refine lv_iload_n hx hb dX16_weighing_7 rfl (lv_at hl 1 rfl) ?_
  refine lv_aload_n hx hb dX16_weighing_8 rfl (lv_at hl 2 rfl) ?_
  refine g_ci (va_runU (C := "LineRemarks$Loose") (As := [.int (zI x), .ref tr]) (rest := []) ⟨hx, hb, hml, hown, hts⟩ (metX20_pointing_k4 hrm hT1 (by rw [List.length_append]; simp only [List.length_cons, List.length_nil]; omega)) (va_cwO 2 hts (lw_O q3223 q3185 q3183 q3201 q3202 q149 q3203) rfl rfl rfl q3199 (by decide +kernel) ⟨Nat.le_of_ble_eq_true rfl, Nat.le_of_ble_eq_true rfl⟩) (g_preV hG (g_recv hG (hG.fz (show F.1 rm = some (oB 18 _) from hrm)) (ci := 18) rfl)) rfl rfl hl.1 rfl (lv_room (Nat.le_of_ble_eq_true rfl)) dX16_weighing_9 ⟨Nat.le_of_ble_eq_true rfl, Nat.le_of_ble_eq_true rfl⟩) hG (fun r_4 F_5 V_6 ws_ H locs hp hG => ?_)
  obtain ⟨rfl, rfl, hT2, hV2, rfl⟩ := hp
  have hG : gW X F V_6 (Z) s H locs := hG
  refine lv_iconst (v := zI 2) hx hb dX16_weighing_12 (by decide +kernel) ?_
  refine g_imul hx hb dX16_weighing_13 ?_
  exact g_iret hx hb hr hlocks hG (⟨rfl, rfl, (hT2.app rfl), (hV1.tr hV2), rfl⟩) ⟨Nat.le_of_ble_eq_true rfl, Nat.le_of_ble_eq_true rfl⟩ dX16_weighing_14

set_option maxHeartbeats 4000000 in
theorem metX16_weighing_k5 {l : Launch} {X : gX} {F : gF} {V : gV} {Z : va_W} {rm tr tb i9 : Nat} {x : Int} {ra : Nat → Nat} {r : Rm} {t : List Int} (hrm : isRmk F ra rm 5 i9 r) (hT : xTr X V tr tb t) (hlen : t.length + 2 ≤ 20) : Met l yX16_weighing (ws_ yX16_weighing cX16_weighing 3 (some FieldType.int)) ({ frames := 2, cells := 0, slots := 0, locals := 43 }) (gP X F V (Z) [.ref rm, .int (zI x), .ref tr]) (gQi X (fun u G U ws => u = zI ((x + (i9 : Int)) * 2) ∧ F = G ∧ xTr X U tr tb (t ++ [11, 10]) ∧ vx23 V U ∧ Z = ws)) 0 0 (gA X) := by
  refine Met.g (by decide) (Nat.le_of_ble_eq_true rfl) ?_
  intro p e s m below meth c ls hx hb hr hts hown hlocks hml hin hG hl
  have hl : lv_has ls 3 [(0, .ref rm), (1, .int (zI x)), (2, .ref tr)] := hl
  refine lv_aload_n hx hb dX16_weighing_0 rfl (lv_at hl 2 rfl) ?_
  refine lv_bipush (v := zI 11) hx hb dX16_weighing_1 (by decide +kernel) ?_
  refine g_cv (va_runV (As := [.int (zI 11)]) (rest := []) ⟨hx, hb, hml, hown, hts⟩ (metX1_runs (b := 11) hT (by omega)) (cwV 1 hts (lw_V q3200 q3191 q3192 q88 q3193) rfl rfl rfl (by decide +kernel) ⟨Nat.le_of_ble_eq_true rfl, Nat.le_of_ble_eq_true rfl⟩) (g_preV hG (g_recv hG (hG.vo hT.1) (ci := 1) rfl)) rfl rfl hl.1 rfl (lv_room (Nat.le_of_ble_eq_true rfl)) dX16_weighing_3 ⟨Nat.le_of_ble_eq_true rfl, Nat.le_of_ble_eq_true rfl⟩) hG (fun F_2 V_3 ws_ H locs hp hG => ?_)
  obtain ⟨rfl, hT1, hV1, rfl⟩ := hp
  have hG : gW X F V_3 (Z) s H locs := hG
  refine lv_aload_n hx hb dX16_weighing_6 rfl (lv_at hl 0 rfl) ?_
  refine lv_iload_n hx hb dX16_weighing_7 rfl (lv_at hl 1 rfl) ?_
  refine lv_aload_n hx hb dX16_weighing_8 rfl (lv_at hl 2 rfl) ?_
  refine g_ci (va_runU (C := "LineRemarks$Wall") (As := [.int (zI x), .ref tr]) (rest := []) ⟨hx, hb, hml, hown, hts⟩ (metX16_pointing_k5 hrm hT1 (by rw [List.length_append]; simp only [List.length_cons, List.length_nil]; omega)) (va_cwU 2 hts (lw_U q3223 q3185 q3212 q3183 q145 q3199) rfl rfl rfl rfl (by decide +kernel) ⟨Nat.le_of_ble_eq_true rfl, Nat.le_of_ble_eq_true rfl⟩) (g_preV hG (g_recv hG (hG.fz (show F.1 rm = some (oB 19 _) from hrm)) (ci := 19) rfl)) rfl rfl hl.1 rfl (lv_room (Nat.le_of_ble_eq_true rfl)) dX16_weighing_9 ⟨Nat.le_of_ble_eq_true rfl, Nat.le_of_ble_eq_true rfl⟩) hG (fun r_4 F_5 V_6 ws_ H locs hp hG => ?_)
  obtain ⟨rfl, rfl, hT2, hV2, rfl⟩ := hp
  have hG : gW X F V_6 (Z) s H locs := hG
  refine lv_iconst (v := zI 2) hx hb dX16_weighing_12 (by decide +kernel) ?_
  refine g_imul hx hb dX16_weighing_13 ?_
  exact g_iret hx hb hr hlocks hG (⟨rfl, rfl, (hT2.app rfl), (hV1.tr hV2), rfl⟩) ⟨Nat.le_of_ble_eq_true rfl, Nat.le_of_ble_eq_true rfl⟩ dX16_weighing_14

set_option maxHeartbeats 4000000 in
theorem metX16_weighing_k6 {l : Launch} {X : gX} {F : gF} {V : gV} {Z : va_W} {rm tr tb i9 : Nat} {x : Int} {ra : Nat → Nat} {r : Rm} {t : List Int} (hrm : isRmk F ra rm 6 i9 r) (hT : xTr X V tr tb t) (hlen : t.length + 5 ≤ 20) : Met l yX16_weighing (ws_ yX16_weighing cX16_weighing 3 (some FieldType.int)) ({ frames := 5, cells := 0, slots := 0, locals := 109 }) (gP X F V (Z) [.ref rm, .int (zI x), .ref tr]) (gQi X (fun u G U ws => u = zI (((x + 1 + (i9 : Int) + (rBy r : Int)) * 2) * 2) ∧ F = G ∧ xTr X U tr tb (t ++ [11, 70, 40, 20, 10]) ∧ vx23 V U ∧ Z = ws)) 0 0 (gA X) := by
  refine Met.g (by decide) (Nat.le_of_ble_eq_true rfl) ?_
  intro p e s m below meth c ls hx hb hr hts hown hlocks hml hin hG hl
  have hl : lv_has ls 3 [(0, .ref rm), (1, .int (zI x)), (2, .ref tr)] := hl
  refine lv_aload_n hx hb dX16_weighing_0 rfl (lv_at hl 2 rfl) ?_
  refine lv_bipush (v := zI 11) hx hb dX16_weighing_1 (by decide +kernel) ?_
  refine g_cv (va_runV (As := [.int (zI 11)]) (rest := []) ⟨hx, hb, hml, hown, hts⟩ (metX1_runs (b := 11) hT (by omega)) (cwV 1 hts (lw_V q3200 q3191 q3192 q88 q3193) rfl rfl rfl (by decide +kernel) ⟨Nat.le_of_ble_eq_true rfl, Nat.le_of_ble_eq_true rfl⟩) (g_preV hG (g_recv hG (hG.vo hT.1) (ci := 1) rfl)) rfl rfl hl.1 rfl (lv_room (Nat.le_of_ble_eq_true rfl)) dX16_weighing_3 ⟨Nat.le_of_ble_eq_true rfl, Nat.le_of_ble_eq_true rfl⟩) hG (fun F_2 V_3 ws_ H locs hp hG => ?_)
  obtain ⟨rfl, hT1, hV1, rfl⟩ := hp
  have hG : gW X F V_3 (Z) s H locs := hG
  refine lv_aload_n hx hb dX16_weighing_6 rfl (lv_at hl 0 rfl) ?_
  refine lv_iload_n hx hb dX16_weighing_7 rfl (lv_at hl 1 rfl) ?_
  refine lv_aload_n hx hb dX16_weighing_8 rfl (lv_at hl 2 rfl) ?_
  refine g_ci (va_runU (C := "LineRemarks$Tail") (As := [.int (zI x), .ref tr]) (rest := []) ⟨hx, hb, hml, hown, hts⟩ (metX22_pointing_k6 hrm hT1 (by rw [List.length_append]; simp only [List.length_cons, List.length_nil]; omega)) (va_cwO 2 hts (lw_O q3223 q3185 q3183 q3207 q3208 q151 q3209) rfl rfl rfl q3199 (by decide +kernel) ⟨Nat.le_of_ble_eq_true rfl, Nat.le_of_ble_eq_true rfl⟩) (g_preV hG (g_recv hG (hG.fz (show F.1 rm = some (oB 20 _) from hrm)) (ci := 20) rfl)) rfl rfl hl.1 rfl (lv_room (Nat.le_of_ble_eq_true rfl)) dX16_weighing_9 ⟨Nat.le_of_ble_eq_true rfl, Nat.le_of_ble_eq_true rfl⟩) hG (fun r_4 F_5 V_6 ws_ H locs hp hG => ?_)
  obtain ⟨rfl, rfl, hT2, hV2, rfl⟩ := hp
  have hG : gW X F V_6 (Z) s H locs := hG
  refine lv_iconst (v := zI 2) hx hb dX16_weighing_12 (by decide +kernel) ?_
  refine g_imul hx hb dX16_weighing_13 ?_
  exact g_iret hx hb hr hlocks hG (⟨rfl, rfl, (hT2.app rfl), (hV1.tr hV2), rfl⟩) ⟨Nat.le_of_ble_eq_true rfl, Nat.le_of_ble_eq_true rfl⟩ dX16_weighing_14

set_option maxHeartbeats 4000000 in
theorem metX18_weighing_k2 {l : Launch} {X : gX} {F : gF} {V : gV} {Z : va_W} {rm tr tb i9 : Nat} {x : Int} {ra : Nat → Nat} {r : Rm} {t : List Int} (hrm : isRmk F ra rm 2 i9 r) (hT : xTr X V tr tb t) (hlen : t.length + 3 ≤ 20) : Met l yX18_weighing (ws_ yX18_weighing cX18_weighing 3 (some FieldType.int)) ({ frames := 3, cells := 0, slots := 0, locals := 65 }) (gP X F V (Z) [.ref rm, .int (zI x), .ref tr]) (gQi X (fun u G U ws => u = zI ((x + (i9 : Int)) * 2 * 3) ∧ F = G ∧ xTr X U tr tb (t ++ [30, 11, 10]) ∧ vx23 V U ∧ Z = ws)) 0 0 (gA X) := by
  refine Met.g (by decide) (Nat.le_of_ble_eq_true rfl) ?_
  intro p e s m below meth c ls hx hb hr hts hown hlocks hml hin hG hl
  have hl : lv_has ls 3 [(0, .ref rm), (1, .int (zI x)), (2, .ref tr)] := hl
  refine lv_aload_n hx hb dX18_weighing_0 rfl (lv_at hl 2 rfl) ?_
  refine lv_bipush (v := zI 30) hx hb dX18_weighing_1 (by decide +kernel) ?_
  refine g_cv (va_runV (As := [.int (zI 30)]) (rest := []) ⟨hx, hb, hml, hown, hts⟩ (metX1_runs (b := 30) hT (by omega)) (cwV 1 hts (lw_V q3220 q3191 q3192 q88 q3193) rfl rfl rfl (by decide +kernel) ⟨Nat.le_of_ble_eq_true rfl, Nat.le_of_ble_eq_true rfl⟩) (g_preV hG (g_recv hG (hG.vo hT.1) (ci := 1) rfl)) rfl rfl hl.1 rfl (lv_room (Nat.le_of_ble_eq_true rfl)) dX18_weighing_3 ⟨Nat.le_of_ble_eq_true rfl, Nat.le_of_ble_eq_true rfl⟩) hG (fun F_2 V_3 ws_ H locs hp hG => ?_)
  obtain ⟨rfl, hT1, hV1, rfl⟩ := hp
  have hG : gW X F V_3 (Z) s H locs := hG
  refine lv_aload_n hx hb dX18_weighing_6 rfl (lv_at hl 0 rfl) ?_
  refine lv_iload_n hx hb dX18_weighing_7 rfl (lv_at hl 1 rfl) ?_
  refine lv_aload_n hx hb dX18_weighing_8 rfl (lv_at hl 2 rfl) ?_
  refine g_ci (va_runSU (C := "LineRemarks$Block") (g_cls hG (ci := 16) rfl) (As := [.int (zI x), .ref tr]) (rest := []) ⟨hx, hb, hml, hown, hts⟩ (metX16_weighing_k2 hrm hT1 (by rw [List.length_append]; simp only [List.length_cons, List.length_nil]; omega)) (va_cwSU 2 hts (lw_SU q3221 q3216 q2126 q3214 q145 q3222) rfl rfl rfl (by decide +kernel) ⟨Nat.le_of_ble_eq_true rfl, Nat.le_of_ble_eq_true rfl⟩) (g_preV hG (g_recv hG (hG.fz (show F.1 rm = some (oB 16 _) from hrm)) (ci := 16) rfl)) rfl rfl hl.1 rfl (lv_room (Nat.le_of_ble_eq_true rfl)) dX18_weighing_9 ⟨Nat.le_of_ble_eq_true rfl, Nat.le_of_ble_eq_true rfl⟩) hG (fun r_4 F_5 V_6 ws_ H locs hp hG => ?_)
  obtain ⟨rfl, rfl, hT2, hV2, rfl⟩ := hp
  have hG : gW X F V_6 (Z) s H locs := hG
  refine lv_iconst (v := zI 3) hx hb dX18_weighing_12 (by decide +kernel) ?_
  refine g_imul hx hb dX18_weighing_13 ?_
  exact g_iret hx hb hr hlocks hG (⟨rfl, rfl, (hT2.app rfl), (hV1.tr hV2), rfl⟩) ⟨Nat.le_of_ble_eq_true rfl, Nat.le_of_ble_eq_true rfl⟩ dX18_weighing_14

set_option maxHeartbeats 4000000 in
theorem metX18_weighing_k5 {l : Launch} {X : gX} {F : gF} {V : gV} {Z : va_W} {rm tr tb i9 : Nat} {x : Int} {ra : Nat → Nat} {r : Rm} {t : List Int} (hrm : isRmk F ra rm 5 i9 r) (hT : xTr X V tr tb t) (hlen : t.length + 3 ≤ 20) : Met l yX18_weighing (ws_ yX18_weighing cX18_weighing 3 (some FieldType.int)) ({ frames := 3, cells := 0, slots := 0, locals := 65 }) (gP X F V (Z) [.ref rm, .int (zI x), .ref tr]) (gQi X (fun u G U ws => u = zI ((x + (i9 : Int)) * 2 * 3) ∧ F = G ∧ xTr X U tr tb (t ++ [30, 11, 10]) ∧ vx23 V U ∧ Z = ws)) 0 0 (gA X) := by
  refine Met.g (by decide) (Nat.le_of_ble_eq_true rfl) ?_
  intro p e s m below meth c ls hx hb hr hts hown hlocks hml hin hG hl
  have hl : lv_has ls 3 [(0, .ref rm), (1, .int (zI x)), (2, .ref tr)] := hl
  refine lv_aload_n hx hb dX18_weighing_0 rfl (lv_at hl 2 rfl) ?_
  refine lv_bipush (v := zI 30) hx hb dX18_weighing_1 (by decide +kernel) ?_
  refine g_cv (va_runV (As := [.int (zI 30)]) (rest := []) ⟨hx, hb, hml, hown, hts⟩ (metX1_runs (b := 30) hT (by omega)) (cwV 1 hts (lw_V q3220 q3191 q3192 q88 q3193) rfl rfl rfl (by decide +kernel) ⟨Nat.le_of_ble_eq_true rfl, Nat.le_of_ble_eq_true rfl⟩) (g_preV hG (g_recv hG (hG.vo hT.1) (ci := 1) rfl)) rfl rfl hl.1 rfl (lv_room (Nat.le_of_ble_eq_true rfl)) dX18_weighing_3 ⟨Nat.le_of_ble_eq_true rfl, Nat.le_of_ble_eq_true rfl⟩) hG (fun F_2 V_3 ws_ H locs hp hG => ?_)
  obtain ⟨rfl, hT1, hV1, rfl⟩ := hp
  have hG : gW X F V_3 (Z) s H locs := hG
  refine lv_aload_n hx hb dX18_weighing_6 rfl (lv_at hl 0 rfl) ?_
  refine lv_iload_n hx hb dX18_weighing_7 rfl (lv_at hl 1 rfl) ?_
  refine lv_aload_n hx hb dX18_weighing_8 rfl (lv_at hl 2 rfl) ?_
  refine g_ci (va_runSU (C := "LineRemarks$Wall") (g_cls hG (ci := 19) rfl) (As := [.int (zI x), .ref tr]) (rest := []) ⟨hx, hb, hml, hown, hts⟩ (metX16_weighing_k5 hrm hT1 (by rw [List.length_append]; simp only [List.length_cons, List.length_nil]; omega)) (va_cwSU 2 hts (lw_SU q3221 q3216 q2126 q3214 q145 q3222) rfl rfl rfl (by decide +kernel) ⟨Nat.le_of_ble_eq_true rfl, Nat.le_of_ble_eq_true rfl⟩) (g_preV hG (g_recv hG (hG.fz (show F.1 rm = some (oB 19 _) from hrm)) (ci := 19) rfl)) rfl rfl hl.1 rfl (lv_room (Nat.le_of_ble_eq_true rfl)) dX18_weighing_9 ⟨Nat.le_of_ble_eq_true rfl, Nat.le_of_ble_eq_true rfl⟩) hG (fun r_4 F_5 V_6 ws_ H locs hp hG => ?_)
  obtain ⟨rfl, rfl, hT2, hV2, rfl⟩ := hp
  have hG : gW X F V_6 (Z) s H locs := hG
  refine lv_iconst (v := zI 3) hx hb dX18_weighing_12 (by decide +kernel) ?_
  refine g_imul hx hb dX18_weighing_13 ?_
  exact g_iret hx hb hr hlocks hG (⟨rfl, rfl, (hT2.app rfl), (hV1.tr hV2), rfl⟩) ⟨Nat.le_of_ble_eq_true rfl, Nat.le_of_ble_eq_true rfl⟩ dX18_weighing_14

set_option maxHeartbeats 4000000 in
theorem metX22_weighing_k6 {l : Launch} {X : gX} {F : gF} {V : gV} {Z : va_W} {rm tr tb i9 : Nat} {x : Int} {ra : Nat → Nat} {r : Rm} {t : List Int} (hrm : isRmk F ra rm 6 i9 r) (hT : xTr X V tr tb t) (hlen : t.length + 6 ≤ 20) : Met l yX22_weighing (ws_ yX22_weighing cX22_weighing 3 (some FieldType.int)) ({ frames := 6, cells := 0, slots := 0, locals := 131 }) (gP X F V (Z) [.ref rm, .int (zI x), .ref tr]) (gQi X (fun u G U ws => u = zI ((((x - (rBy r : Int)) + 1 + (i9 : Int) + (rBy r : Int)) * 2) * 2) ∧ F = G ∧ xTr X U tr tb (t ++ [71, 11, 70, 40, 20, 10]) ∧ vx23 V U ∧ Z = ws)) 0 0 (gA X) := by
  refine Met.g (by decide) (Nat.le_of_ble_eq_true rfl) ?_
  intro p e s m below meth c ls hx hb hr hts hown hlocks hml hin hG hl
  have hl : lv_has ls 3 [(0, .ref rm), (1, .int (zI x)), (2, .ref tr)] := hl
  refine lv_aload_n hx hb dX22_weighing_0 rfl (lv_at hl 2 rfl) ?_
  refine lv_bipush (v := zI 71) hx hb dX22_weighing_1 (by decide +kernel) ?_
  refine g_cv (va_runV (As := [.int (zI 71)]) (rest := []) ⟨hx, hb, hml, hown, hts⟩ (metX1_runs (b := 71) hT (by omega)) (cwV 1 hts (lw_V q3210 q3191 q3192 q88 q3193) rfl rfl rfl (by decide +kernel) ⟨Nat.le_of_ble_eq_true rfl, Nat.le_of_ble_eq_true rfl⟩) (g_preV hG (g_recv hG (hG.vo hT.1) (ci := 1) rfl)) rfl rfl hl.1 rfl (lv_room (Nat.le_of_ble_eq_true rfl)) dX22_weighing_3 ⟨Nat.le_of_ble_eq_true rfl, Nat.le_of_ble_eq_true rfl⟩) hG (fun F_2 V_3 ws_ H locs hp hG => ?_)
  obtain ⟨rfl, hT1, hV1, rfl⟩ := hp
  have hG : gW X F V_3 (Z) s H locs := hG
  refine lv_aload_n hx hb dX22_weighing_6 rfl (lv_at hl 0 rfl) ?_
  refine lv_iload_n hx hb dX22_weighing_7 rfl (lv_at hl 1 rfl) ?_
  refine lv_aload_n hx hb dX22_weighing_8 rfl (lv_at hl 0 rfl) ?_
  refine g_get (ci := 20) hx hb hts in_X22 hown hG (hG.fz (show F.1 rm = some (oB 20 _) from hrm)) rfl 1 (Nat.le_of_ble_eq_true rfl) (hts _ q2074) (u_same (hts _ q2075)) rfl dX22_weighing_9 ?_
  refine g_isub hx hb dX22_weighing_12 ?_
  refine lv_aload_n hx hb dX22_weighing_13 rfl (lv_at hl 2 rfl) ?_
  refine g_ci (va_runSX (n := 2) (C := "LineRemarks$Tail") (D := "LineRemarks$Caret") (g_cls hG (ci := 20) rfl) (As := [.int (zI (x - (rBy r : Int))), .ref tr]) (rest := []) ⟨hx, hb, hml, hown, hts⟩ (metX16_weighing_k6 (x := x - (rBy r : Int)) hrm hT1 (by rw [List.length_append]; simp only [List.length_cons, List.length_nil]; omega)) (lw_meth q3222) q3230 q3231 q2178 q3214 q145 (sub_2 (by decide) (hts _ q2139) (hts _ q2113)) rfl rfl (by decide +kernel) ⟨Nat.le_of_ble_eq_true rfl, Nat.le_of_ble_eq_true rfl⟩ (g_preV hG (g_recv hG (hG.fz (show F.1 rm = some (oB 20 _) from hrm)) (ci := 20) rfl)) rfl rfl hl.1 rfl (lv_room (Nat.le_of_ble_eq_true rfl)) dX22_weighing_14 ⟨Nat.le_of_ble_eq_true rfl, Nat.le_of_ble_eq_true rfl⟩) hG (fun r_4 F_5 V_6 ws_ H locs hp hG => ?_)
  obtain ⟨rfl, rfl, hT2, hV2, rfl⟩ := hp
  have hG : gW X F V_6 (Z) s H locs := hG
  exact g_iret hx hb hr hlocks hG (⟨rfl, rfl, (hT2.app rfl), (hV1.tr hV2), rfl⟩) ⟨Nat.le_of_ble_eq_true rfl, Nat.le_of_ble_eq_true rfl⟩ dX22_weighing_17

set_option maxHeartbeats 4000000 in
theorem metX16_clinging_k0 {l : Launch} {X : gX} {F : gF} {V : gV} {Z : va_W} {rm tr tb i9 : Nat} {x : Int} {ra : Nat → Nat} {r : Rm} {t : List Int} (hrm : isRmk F ra rm 0 i9 r) (hT : xTr X V tr tb t) (hlen : t.length + 4 ≤ 20) : Met l yX16_clinging (ws_ yX16_clinging cX16_clinging 4 (some FieldType.int)) ({ frames := 3, cells := 0, slots := 0, locals := 65 }) (gP X F V (Z) [.ref rm, .int (zI x), .ref tr]) (gQi X (fun u G U ws => u = zI ((x + (i9 : Int)) * 2) ^^^ zI ((x - (rBy r : Int)) + (i9 : Int)) ∧ F = G ∧ xTr X U tr tb (t ++ [12, 11, 10, 10]) ∧ vx23 V U ∧ Z = ws)) 0 0 (gA X) := by
  refine Met.g (by decide) (Nat.le_of_ble_eq_true rfl) ?_
  intro p e s m below meth c ls hx hb hr hts hown hlocks hml hin hG hl
  have hl : lv_has ls 4 [(0, .ref rm), (1, .int (zI x)), (2, .ref tr)] := hl
  refine lv_aload_n hx hb dX16_clinging_0 rfl (lv_at hl 2 rfl) ?_
  refine lv_bipush (v := zI 12) hx hb dX16_clinging_1 (by decide +kernel) ?_
  refine g_cv (va_runV (As := [.int (zI 12)]) (rest := []) ⟨hx, hb, hml, hown, hts⟩ (metX1_runs (b := 12) hT (by omega)) (cwV 1 hts (lw_V q3200 q3191 q3192 q88 q3193) rfl rfl rfl (by decide +kernel) ⟨Nat.le_of_ble_eq_true rfl, Nat.le_of_ble_eq_true rfl⟩) (g_preV hG (g_recv hG (hG.vo hT.1) (ci := 1) rfl)) rfl rfl hl.1 rfl (lv_room (Nat.le_of_ble_eq_true rfl)) dX16_clinging_3 ⟨Nat.le_of_ble_eq_true rfl, Nat.le_of_ble_eq_true rfl⟩) hG (fun F_2 V_3 ws_ H locs hp hG => ?_)
  obtain ⟨rfl, hT1, hV1, rfl⟩ := hp
  have hG : gW X F V_3 (Z) s H locs := hG
  refine lv_aload_n hx hb dX16_clinging_6 rfl (lv_at hl 0 rfl) ?_
  refine lv_iload_n hx hb dX16_clinging_7 rfl (lv_at hl 1 rfl) ?_
  refine lv_aload_n hx hb dX16_clinging_8 rfl (lv_at hl 2 rfl) ?_
  refine g_ci (va_runV (As := [.int (zI x), .ref tr]) (rest := []) ⟨hx, hb, hml, hown, hts⟩ (metX16_weighing_k0 hrm hT1 (by rw [List.length_append]; simp only [List.length_cons, List.length_nil]; omega)) (cwV 2 hts (lw_V q3245 q3214 q3215 q145 q3222) rfl rfl rfl (by decide +kernel) ⟨Nat.le_of_ble_eq_true rfl, Nat.le_of_ble_eq_true rfl⟩) (g_preV hG (g_recv hG (hG.fz (show F.1 rm = some (oB 14 _) from hrm)) (ci := 14) rfl)) rfl rfl hl.1 rfl (lv_room (Nat.le_of_ble_eq_true rfl)) dX16_clinging_9 ⟨Nat.le_of_ble_eq_true rfl, Nat.le_of_ble_eq_true rfl⟩) hG (fun r_4 F_5 V_6 ws_ H locs hp hG => ?_)
  obtain ⟨rfl, rfl, hT2, hV2, rfl⟩ := hp
  have hG : gW X F V_6 (Z) s H locs := hG
  refine lv_istore_n (lv' := [(3, .int (zI ((x + (i9 : Int)) * 2))), (0, .ref rm), (1, .int (zI x)), (2, .ref tr)]) hx hb dX16_clinging_12 rfl hl (by decide) rfl (fun ls hl => ?_)
  refine lv_iload_n hx hb dX16_clinging_13 rfl (lv_at hl 0 rfl) ?_
  refine lv_aload_n hx hb dX16_clinging_14 rfl (lv_at hl 1 rfl) ?_
  refine lv_iload_n hx hb dX16_clinging_15 rfl (lv_at hl 2 rfl) ?_
  refine lv_aload_n hx hb dX16_clinging_16 rfl (lv_at hl 1 rfl) ?_
  refine g_get (ci := 14) hx hb hts in_X16 hown hG (hG.fz (show F.1 rm = some (oB 14 _) from hrm)) rfl 1 (Nat.le_of_ble_eq_true rfl) (hts _ q2067) (fun _ h9 => h9) rfl dX16_clinging_17 ?_
  refine g_isub hx hb dX16_clinging_20 ?_
  refine lv_aload_n hx hb dX16_clinging_21 rfl (lv_at hl 3 rfl) ?_
  refine g_ci (va_runV (As := [.int (zI (x - (rBy r : Int))), .ref tr]) (rest := [.int (zI ((x + (i9 : Int)) * 2))]) ⟨hx, hb, hml, hown, hts⟩ (metX16_pointing_k0 (x := x - (rBy r : Int)) hrm hT2 (by rw [List.length_append, List.length_append]; simp only [List.length_cons, List.length_nil]; omega)) (cwV 2 hts (lw_V q3223 q3183 q3184 q145 q3199) rfl rfl rfl (by decide +kernel) ⟨Nat.le_of_ble_eq_true rfl, Nat.le_of_ble_eq_true rfl⟩) (g_preV hG (g_recv hG (hG.fz (show F.1 rm = some (oB 14 _) from hrm)) (ci := 14) rfl)) rfl rfl hl.1 rfl (lv_room (Nat.le_of_ble_eq_true rfl)) dX16_clinging_22 ⟨Nat.le_of_ble_eq_true rfl, Nat.le_of_ble_eq_true rfl⟩) hG (fun r_7 F_8 V_9 ws_ H locs hp hG => ?_)
  obtain ⟨rfl, rfl, hT3, hV3, rfl⟩ := hp
  have hG : gW X F V_9 (Z) s H locs := hG
  refine lv_ixor hx hb dX16_clinging_25 ?_
  exact g_iret hx hb hr hlocks hG (⟨rfl, rfl, (hT3.app3 rfl), ((hV1.tr hV2).tr hV3), rfl⟩) ⟨Nat.le_of_ble_eq_true rfl, Nat.le_of_ble_eq_true rfl⟩ dX16_clinging_26

set_option maxHeartbeats 4000000 in
theorem metX16_clinging_k1 {l : Launch} {X : gX} {F : gF} {V : gV} {Z : va_W} {rm tr tb i9 : Nat} {x : Int} {ra : Nat → Nat} {r : Rm} {t : List Int} (hrm : isRmk F ra rm 1 i9 r) (hT : xTr X V tr tb t) (hlen : t.length + 6 ≤ 20) : Met l yX16_clinging (ws_ yX16_clinging cX16_clinging 4 (some FieldType.int)) ({ frames := 4, cells := 0, slots := 0, locals := 87 }) (gP X F V (Z) [.ref rm, .int (zI x), .ref tr]) (gQi X (fun u G U ws => u = zI ((x + (i9 : Int) + (rBy r : Int)) * 2) ^^^ zI ((x - (rBy r : Int)) + (i9 : Int) + (rBy r : Int)) ∧ F = G ∧ xTr X U tr tb (t ++ [12, 11, 20, 10, 20, 10]) ∧ vx23 V U ∧ Z = ws)) 0 0 (gA X) := by
  refine Met.g (by decide) (Nat.le_of_ble_eq_true rfl) ?_
  intro p e s m below meth c ls hx hb hr hts hown hlocks hml hin hG hl
  have hl : lv_has ls 4 [(0, .ref rm), (1, .int (zI x)), (2, .ref tr)] := hl
  refine lv_aload_n hx hb dX16_clinging_0 rfl (lv_at hl 2 rfl) ?_
  refine lv_bipush (v := zI 12) hx hb dX16_clinging_1 (by decide +kernel) ?_
  refine g_cv (va_runV (As := [.int (zI 12)]) (rest := []) ⟨hx, hb, hml, hown, hts⟩ (metX1_runs (b := 12) hT (by omega)) (cwV 1 hts (lw_V q3200 q3191 q3192 q88 q3193) rfl rfl rfl (by decide +kernel) ⟨Nat.le_of_ble_eq_true rfl, Nat.le_of_ble_eq_true rfl⟩) (g_preV hG (g_recv hG (hG.vo hT.1) (ci := 1) rfl)) rfl rfl hl.1 rfl (lv_room (Nat.le_of_ble_eq_true rfl)) dX16_clinging_3 ⟨Nat.le_of_ble_eq_true rfl, Nat.le_of_ble_eq_true rfl⟩) hG (fun F_2 V_3 ws_ H locs hp hG => ?_)
  obtain ⟨rfl, hT1, hV1, rfl⟩ := hp
  have hG : gW X F V_3 (Z) s H locs := hG
  refine lv_aload_n hx hb dX16_clinging_6 rfl (lv_at hl 0 rfl) ?_
  refine lv_iload_n hx hb dX16_clinging_7 rfl (lv_at hl 1 rfl) ?_
  refine lv_aload_n hx hb dX16_clinging_8 rfl (lv_at hl 2 rfl) ?_
  refine g_ci (va_runU (C := "LineRemarks$Point") (As := [.int (zI x), .ref tr]) (rest := []) ⟨hx, hb, hml, hown, hts⟩ (metX16_weighing_k1 hrm hT1 (by rw [List.length_append]; simp only [List.length_cons, List.length_nil]; omega)) (va_cwU 2 hts (lw_U q3245 q3216 q3226 q3214 q145 q3222) rfl rfl rfl rfl (by decide +kernel) ⟨Nat.le_of_ble_eq_true rfl, Nat.le_of_ble_eq_true rfl⟩) (g_preV hG (g_recv hG (hG.fz (show F.1 rm = some (oB 15 _) from hrm)) (ci := 15) rfl)) rfl rfl hl.1 rfl (lv_room (Nat.le_of_ble_eq_true rfl)) dX16_clinging_9 ⟨Nat.le_of_ble_eq_true rfl, Nat.le_of_ble_eq_true rfl⟩) hG (fun r_4 F_5 V_6 ws_ H locs hp hG => ?_)
  obtain ⟨rfl, rfl, hT2, hV2, rfl⟩ := hp
  have hG : gW X F V_6 (Z) s H locs := hG
  refine lv_istore_n (lv' := [(3, .int (zI ((x + (i9 : Int) + (rBy r : Int)) * 2))), (0, .ref rm), (1, .int (zI x)), (2, .ref tr)]) hx hb dX16_clinging_12 rfl hl (by decide) rfl (fun ls hl => ?_)
  refine lv_iload_n hx hb dX16_clinging_13 rfl (lv_at hl 0 rfl) ?_
  refine lv_aload_n hx hb dX16_clinging_14 rfl (lv_at hl 1 rfl) ?_
  refine lv_iload_n hx hb dX16_clinging_15 rfl (lv_at hl 2 rfl) ?_
  refine lv_aload_n hx hb dX16_clinging_16 rfl (lv_at hl 1 rfl) ?_
  refine g_get (ci := 15) hx hb hts in_X17 hown hG (hG.fz (show F.1 rm = some (oB 15 _) from hrm)) rfl 1 (Nat.le_of_ble_eq_true rfl) (hts _ q2067) (fun _ h9 => h9) rfl dX16_clinging_17 ?_
  refine g_isub hx hb dX16_clinging_20 ?_
  refine lv_aload_n hx hb dX16_clinging_21 rfl (lv_at hl 3 rfl) ?_
  refine g_ci (va_runU (C := "LineRemarks$Point") (As := [.int (zI (x - (rBy r : Int))), .ref tr]) (rest := [.int (zI ((x + (i9 : Int) + (rBy r : Int)) * 2))]) ⟨hx, hb, hml, hown, hts⟩ (metX17_pointing_k1 (x := x - (rBy r : Int)) hrm hT2 (by rw [List.length_append, List.length_append]; simp only [List.length_cons, List.length_nil]; omega)) (va_cwO 2 hts (lw_O q3223 q3185 q3183 q3206 q3195 q146 q3196) rfl rfl rfl q3199 (by decide +kernel) ⟨Nat.le_of_ble_eq_true rfl, Nat.le_of_ble_eq_true rfl⟩) (g_preV hG (g_recv hG (hG.fz (show F.1 rm = some (oB 15 _) from hrm)) (ci := 15) rfl)) rfl rfl hl.1 rfl (lv_room (Nat.le_of_ble_eq_true rfl)) dX16_clinging_22 ⟨Nat.le_of_ble_eq_true rfl, Nat.le_of_ble_eq_true rfl⟩) hG (fun r_7 F_8 V_9 ws_ H locs hp hG => ?_)
  obtain ⟨rfl, rfl, hT3, hV3, rfl⟩ := hp
  have hG : gW X F V_9 (Z) s H locs := hG
  refine lv_ixor hx hb dX16_clinging_25 ?_
  exact g_iret hx hb hr hlocks hG (⟨rfl, rfl, (hT3.app3 rfl), ((hV1.tr hV2).tr hV3), rfl⟩) ⟨Nat.le_of_ble_eq_true rfl, Nat.le_of_ble_eq_true rfl⟩ dX16_clinging_26

set_option maxHeartbeats 4000000 in
theorem metX16_clinging_k2 {l : Launch} {X : gX} {F : gF} {V : gV} {Z : va_W} {rm tr tb i9 : Nat} {x : Int} {ra : Nat → Nat} {r : Rm} {t : List Int} (hrm : isRmk F ra rm 2 i9 r) (hT : xTr X V tr tb t) (hlen : t.length + 5 ≤ 20) : Met l yX16_clinging (ws_ yX16_clinging cX16_clinging 4 (some FieldType.int)) ({ frames := 4, cells := 0, slots := 0, locals := 87 }) (gP X F V (Z) [.ref rm, .int (zI x), .ref tr]) (gQi X (fun u G U ws => u = zI ((x + (i9 : Int)) * 2 * 3) ^^^ zI ((x - (rBy r : Int)) + (i9 : Int)) ∧ F = G ∧ xTr X U tr tb (t ++ [12, 30, 11, 10, 10]) ∧ vx23 V U ∧ Z = ws)) 0 0 (gA X) := by
  refine Met.g (by decide) (Nat.le_of_ble_eq_true rfl) ?_
  intro p e s m below meth c ls hx hb hr hts hown hlocks hml hin hG hl
  have hl : lv_has ls 4 [(0, .ref rm), (1, .int (zI x)), (2, .ref tr)] := hl
  refine lv_aload_n hx hb dX16_clinging_0 rfl (lv_at hl 2 rfl) ?_
  refine lv_bipush (v := zI 12) hx hb dX16_clinging_1 (by decide +kernel) ?_
  refine g_cv (va_runV (As := [.int (zI 12)]) (rest := []) ⟨hx, hb, hml, hown, hts⟩ (metX1_runs (b := 12) hT (by omega)) (cwV 1 hts (lw_V q3200 q3191 q3192 q88 q3193) rfl rfl rfl (by decide +kernel) ⟨Nat.le_of_ble_eq_true rfl, Nat.le_of_ble_eq_true rfl⟩) (g_preV hG (g_recv hG (hG.vo hT.1) (ci := 1) rfl)) rfl rfl hl.1 rfl (lv_room (Nat.le_of_ble_eq_true rfl)) dX16_clinging_3 ⟨Nat.le_of_ble_eq_true rfl, Nat.le_of_ble_eq_true rfl⟩) hG (fun F_2 V_3 ws_ H locs hp hG => ?_)
  obtain ⟨rfl, hT1, hV1, rfl⟩ := hp
  have hG : gW X F V_3 (Z) s H locs := hG
  refine lv_aload_n hx hb dX16_clinging_6 rfl (lv_at hl 0 rfl) ?_
  refine lv_iload_n hx hb dX16_clinging_7 rfl (lv_at hl 1 rfl) ?_
  refine lv_aload_n hx hb dX16_clinging_8 rfl (lv_at hl 2 rfl) ?_
  refine g_ci (va_runU (C := "LineRemarks$Block") (As := [.int (zI x), .ref tr]) (rest := []) ⟨hx, hb, hml, hown, hts⟩ (metX18_weighing_k2 hrm hT1 (by rw [List.length_append]; simp only [List.length_cons, List.length_nil]; omega)) (va_cwO 2 hts (lw_O q3245 q3216 q3214 q3217 q3218 q147 q3219) rfl rfl rfl q3222 (by decide +kernel) ⟨Nat.le_of_ble_eq_true rfl, Nat.le_of_ble_eq_true rfl⟩) (g_preV hG (g_recv hG (hG.fz (show F.1 rm = some (oB 16 _) from hrm)) (ci := 16) rfl)) rfl rfl hl.1 rfl (lv_room (Nat.le_of_ble_eq_true rfl)) dX16_clinging_9 ⟨Nat.le_of_ble_eq_true rfl, Nat.le_of_ble_eq_true rfl⟩) hG (fun r_4 F_5 V_6 ws_ H locs hp hG => ?_)
  obtain ⟨rfl, rfl, hT2, hV2, rfl⟩ := hp
  have hG : gW X F V_6 (Z) s H locs := hG
  refine lv_istore_n (lv' := [(3, .int (zI ((x + (i9 : Int)) * 2 * 3))), (0, .ref rm), (1, .int (zI x)), (2, .ref tr)]) hx hb dX16_clinging_12 rfl hl (by decide) rfl (fun ls hl => ?_)
  refine lv_iload_n hx hb dX16_clinging_13 rfl (lv_at hl 0 rfl) ?_
  refine lv_aload_n hx hb dX16_clinging_14 rfl (lv_at hl 1 rfl) ?_
  refine lv_iload_n hx hb dX16_clinging_15 rfl (lv_at hl 2 rfl) ?_
  refine lv_aload_n hx hb dX16_clinging_16 rfl (lv_at hl 1 rfl) ?_
  refine g_get (ci := 16) hx hb hts in_X18 hown hG (hG.fz (show F.1 rm = some (oB 16 _) from hrm)) rfl 1 (Nat.le_of_ble_eq_true rfl) (hts _ q2067) (fun _ h9 => h9) rfl dX16_clinging_17 ?_
  refine g_isub hx hb dX16_clinging_20 ?_
  refine lv_aload_n hx hb dX16_clinging_21 rfl (lv_at hl 3 rfl) ?_
  refine g_ci (va_runU (C := "LineRemarks$Block") (As := [.int (zI (x - (rBy r : Int))), .ref tr]) (rest := [.int (zI ((x + (i9 : Int)) * 2 * 3))]) ⟨hx, hb, hml, hown, hts⟩ (metX16_pointing_k2 (x := x - (rBy r : Int)) hrm hT2 (by rw [List.length_append, List.length_append]; simp only [List.length_cons, List.length_nil]; omega)) (va_cwU 2 hts (lw_U q3223 q3185 q3186 q3183 q145 q3199) rfl rfl rfl rfl (by decide +kernel) ⟨Nat.le_of_ble_eq_true rfl, Nat.le_of_ble_eq_true rfl⟩) (g_preV hG (g_recv hG (hG.fz (show F.1 rm = some (oB 16 _) from hrm)) (ci := 16) rfl)) rfl rfl hl.1 rfl (lv_room (Nat.le_of_ble_eq_true rfl)) dX16_clinging_22 ⟨Nat.le_of_ble_eq_true rfl, Nat.le_of_ble_eq_true rfl⟩) hG (fun r_7 F_8 V_9 ws_ H locs hp hG => ?_)
  obtain ⟨rfl, rfl, hT3, hV3, rfl⟩ := hp
  have hG : gW X F V_9 (Z) s H locs := hG
  refine lv_ixor hx hb dX16_clinging_25 ?_
  exact g_iret hx hb hr hlocks hG (⟨rfl, rfl, (hT3.app3 rfl), ((hV1.tr hV2).tr hV3), rfl⟩) ⟨Nat.le_of_ble_eq_true rfl, Nat.le_of_ble_eq_true rfl⟩ dX16_clinging_26

set_option maxHeartbeats 4000000 in
theorem metX16_clinging_k3 {l : Launch} {X : gX} {F : gF} {V : gV} {Z : va_W} {rm tr tb i9 : Nat} {x : Int} {ra : Nat → Nat} {r : Rm} {t : List Int} (hrm : isRmk F ra rm 3 i9 r) (hT : xTr X V tr tb t) (hlen : t.length + 8 ≤ 20) : Met l yX16_clinging (ws_ yX16_clinging cX16_clinging 4 (some FieldType.int)) ({ frames := 5, cells := 0, slots := 0, locals := 109 }) (gP X F V (Z) [.ref rm, .int (zI x), .ref tr]) (gQi X (fun u G U ws => u = zI ((x + 1 + (i9 : Int) + (rBy r : Int)) * 2) ^^^ zI ((x - (rBy r : Int)) + 1 + (i9 : Int) + (rBy r : Int)) ∧ F = G ∧ xTr X U tr tb (t ++ [12, 11, 40, 20, 10, 40, 20, 10]) ∧ vx23 V U ∧ Z = ws)) 0 0 (gA X) := by
  refine Met.g (by decide) (Nat.le_of_ble_eq_true rfl) ?_
  intro p e s m below meth c ls hx hb hr hts hown hlocks hml hin hG hl
  have hl : lv_has ls 4 [(0, .ref rm), (1, .int (zI x)), (2, .ref tr)] := hl
  refine lv_aload_n hx hb dX16_clinging_0 rfl (lv_at hl 2 rfl) ?_
  refine lv_bipush (v := zI 12) hx hb dX16_clinging_1 (by decide +kernel) ?_
  refine g_cv (va_runV (As := [.int (zI 12)]) (rest := []) ⟨hx, hb, hml, hown, hts⟩ (metX1_runs (b := 12) hT (by omega)) (cwV 1 hts (lw_V q3200 q3191 q3192 q88 q3193) rfl rfl rfl (by decide +kernel) ⟨Nat.le_of_ble_eq_true rfl, Nat.le_of_ble_eq_true rfl⟩) (g_preV hG (g_recv hG (hG.vo hT.1) (ci := 1) rfl)) rfl rfl hl.1 rfl (lv_room (Nat.le_of_ble_eq_true rfl)) dX16_clinging_3 ⟨Nat.le_of_ble_eq_true rfl, Nat.le_of_ble_eq_true rfl⟩) hG (fun F_2 V_3 ws_ H locs hp hG => ?_)
  obtain ⟨rfl, hT1, hV1, rfl⟩ := hp
  have hG : gW X F V_3 (Z) s H locs := hG
  refine lv_aload_n hx hb dX16_clinging_6 rfl (lv_at hl 0 rfl) ?_
  refine lv_iload_n hx hb dX16_clinging_7 rfl (lv_at hl 1 rfl) ?_
  refine lv_aload_n hx hb dX16_clinging_8 rfl (lv_at hl 2 rfl) ?_
  refine g_ci (va_runU (C := "LineRemarks$Caret") (As := [.int (zI x), .ref tr]) (rest := []) ⟨hx, hb, hml, hown, hts⟩ (metX16_weighing_k3 hrm hT1 (by rw [List.length_append]; simp only [List.length_cons, List.length_nil]; omega)) (va_cwU 2 hts (lw_U q3245 q3216 q3224 q3214 q145 q3222) rfl rfl rfl rfl (by decide +kernel) ⟨Nat.le_of_ble_eq_true rfl, Nat.le_of_ble_eq_true rfl⟩) (g_preV hG (g_recv hG (hG.fz (show F.1 rm = some (oB 17 _) from hrm)) (ci := 17) rfl)) rfl rfl hl.1 rfl (lv_room (Nat.le_of_ble_eq_true rfl)) dX16_clinging_9 ⟨Nat.le_of_ble_eq_true rfl, Nat.le_of_ble_eq_true rfl⟩) hG (fun r_4 F_5 V_6 ws_ H locs hp hG => ?_)
  obtain ⟨rfl, rfl, hT2, hV2, rfl⟩ := hp
  have hG : gW X F V_6 (Z) s H locs := hG
  refine lv_istore_n (lv' := [(3, .int (zI ((x + 1 + (i9 : Int) + (rBy r : Int)) * 2))), (0, .ref rm), (1, .int (zI x)), (2, .ref tr)]) hx hb dX16_clinging_12 rfl hl (by decide) rfl (fun ls hl => ?_)
  refine lv_iload_n hx hb dX16_clinging_13 rfl (lv_at hl 0 rfl) ?_
  refine lv_aload_n hx hb dX16_clinging_14 rfl (lv_at hl 1 rfl) ?_
  refine lv_iload_n hx hb dX16_clinging_15 rfl (lv_at hl 2 rfl) ?_
  refine lv_aload_n hx hb dX16_clinging_16 rfl (lv_at hl 1 rfl) ?_
  refine g_get (ci := 17) hx hb hts in_X19 hown hG (hG.fz (show F.1 rm = some (oB 17 _) from hrm)) rfl 1 (Nat.le_of_ble_eq_true rfl) (hts _ q2067) (fun _ h9 => h9) rfl dX16_clinging_17 ?_
  refine g_isub hx hb dX16_clinging_20 ?_
  refine lv_aload_n hx hb dX16_clinging_21 rfl (lv_at hl 3 rfl) ?_
  refine g_ci (va_runU (C := "LineRemarks$Caret") (As := [.int (zI (x - (rBy r : Int))), .ref tr]) (rest := [.int (zI ((x + 1 + (i9 : Int) + (rBy r : Int)) * 2))]) ⟨hx, hb, hml, hown, hts⟩ (metX19_pointing_k3 (x := x - (rBy r : Int)) hrm hT2 (by rw [List.length_append, List.length_append]; simp only [List.length_cons, List.length_nil]; omega)) (va_cwO 2 hts (lw_O q3223 q3185 q3183 q3187 q3188 q148 q3189) rfl rfl rfl q3199 (by decide +kernel) ⟨Nat.le_of_ble_eq_true rfl, Nat.le_of_ble_eq_true rfl⟩) (g_preV hG (g_recv hG (hG.fz (show F.1 rm = some (oB 17 _) from hrm)) (ci := 17) rfl)) rfl rfl hl.1 rfl (lv_room (Nat.le_of_ble_eq_true rfl)) dX16_clinging_22 ⟨Nat.le_of_ble_eq_true rfl, Nat.le_of_ble_eq_true rfl⟩) hG (fun r_7 F_8 V_9 ws_ H locs hp hG => ?_)
  obtain ⟨rfl, rfl, hT3, hV3, rfl⟩ := hp
  have hG : gW X F V_9 (Z) s H locs := hG
  refine lv_ixor hx hb dX16_clinging_25 ?_
  exact g_iret hx hb hr hlocks hG (⟨rfl, rfl, (hT3.app3 rfl), ((hV1.tr hV2).tr hV3), rfl⟩) ⟨Nat.le_of_ble_eq_true rfl, Nat.le_of_ble_eq_true rfl⟩ dX16_clinging_26

set_option maxHeartbeats 4000000 in
theorem metX16_clinging_k4 {l : Launch} {X : gX} {F : gF} {V : gV} {Z : va_W} {rm tr tb i9 : Nat} {x : Int} {ra : Nat → Nat} {r : Rm} {t : List Int} (hrm : isRmk F ra rm 4 i9 r) (hT : xTr X V tr tb t) (hlen : t.length + 6 ≤ 20) : Met l yX16_clinging (ws_ yX16_clinging cX16_clinging 4 (some FieldType.int)) ({ frames := 4, cells := 0, slots := 0, locals := 87 }) (gP X F V (Z) [.ref rm, .int (zI x), .ref tr]) (gQi X (fun u G U ws => u = zI ((x + (i9 : Int) - (i9 : Int)) * 2) ^^^ zI ((x - (rBy r : Int)) + (i9 : Int) - (i9 : Int)) ∧ F = G ∧ xTr X U tr tb (t ++ [12, 11, 51, 10, 51, 10]) ∧ vx23 V U ∧ Z = ws)) 0 0 (gA X) := by
  refine Met.g (by decide) (Nat.le_of_ble_eq_true rfl) ?_
  intro p e s m below meth c ls hx hb hr hts hown hlocks hml hin hG hl
  have hl : lv_has ls 4 [(0, .ref rm), (1, .int (zI x)), (2, .ref tr)] := hl
  refine lv_aload_n hx hb dX16_clinging_0 rfl (lv_at hl 2 rfl) ?_
  refine lv_bipush (v := zI 12) hx hb dX16_clinging_1 (by decide +kernel) ?_
  refine g_cv (va_runV (As := [.int (zI 12)]) (rest := []) ⟨hx, hb, hml, hown, hts⟩ (metX1_runs (b := 12) hT (by omega)) (cwV 1 hts (lw_V q3200 q3191 q3192 q88 q3193) rfl rfl rfl (by decide +kernel) ⟨Nat.le_of_ble_eq_true rfl, Nat.le_of_ble_eq_true rfl⟩) (g_preV hG (g_recv hG (hG.vo hT.1) (ci := 1) rfl)) rfl rfl hl.1 rfl (lv_room (Nat.le_of_ble_eq_true rfl)) dX16_clinging_3 ⟨Nat.le_of_ble_eq_true rfl, Nat.le_of_ble_eq_true rfl⟩) hG (fun F_2 V_3 ws_ H locs hp hG => ?_)
  obtain ⟨rfl, hT1, hV1, rfl⟩ := hp
  have hG : gW X F V_3 (Z) s H locs := hG
  refine lv_aload_n hx hb dX16_clinging_6 rfl (lv_at hl 0 rfl) ?_
  refine lv_iload_n hx hb dX16_clinging_7 rfl (lv_at hl 1 rfl) ?_
  refine lv_aload_n hx hb dX16_clinging_8 rfl (lv_at hl 2 rfl) ?_
  refine g_ci (va_runU (C := "LineRemarks$Loose") (As := [.int (zI x), .ref tr]) (rest := []) ⟨hx, hb, hml, hown, hts⟩ (metX16_weighing_k4 hrm hT1 (by rw [List.length_append]; simp only [List.length_cons, List.length_nil]; omega)) (va_cwU 2 hts (lw_U q3245 q3216 q3225 q3214 q145 q3222) rfl rfl rfl rfl (by decide +kernel) ⟨Nat.le_of_ble_eq_true rfl, Nat.le_of_ble_eq_true rfl⟩) (g_preV hG (g_recv hG (hG.fz (show F.1 rm = some (oB 18 _) from hrm)) (ci := 18) rfl)) rfl rfl hl.1 rfl (lv_room (Nat.le_of_ble_eq_true rfl)) dX16_clinging_9 ⟨Nat.le_of_ble_eq_true rfl, Nat.le_of_ble_eq_true rfl⟩) hG (fun r_4 F_5 V_6 ws_ H locs hp hG => ?_)
  obtain ⟨rfl, rfl, hT2, hV2, rfl⟩ := hp
  have hG : gW X F V_6 (Z) s H locs := hG
  refine lv_istore_n (lv' := [(3, .int (zI ((x + (i9 : Int) - (i9 : Int)) * 2))), (0, .ref rm), (1, .int (zI x)), (2, .ref tr)]) hx hb dX16_clinging_12 rfl hl (by decide) rfl (fun ls hl => ?_)
  refine lv_iload_n hx hb dX16_clinging_13 rfl (lv_at hl 0 rfl) ?_
  refine lv_aload_n hx hb dX16_clinging_14 rfl (lv_at hl 1 rfl) ?_
  refine lv_iload_n hx hb dX16_clinging_15 rfl (lv_at hl 2 rfl) ?_
  refine lv_aload_n hx hb dX16_clinging_16 rfl (lv_at hl 1 rfl) ?_
  refine g_get (ci := 18) hx hb hts in_X20 hown hG (hG.fz (show F.1 rm = some (oB 18 _) from hrm)) rfl 1 (Nat.le_of_ble_eq_true rfl) (hts _ q2067) (fun _ h9 => h9) rfl dX16_clinging_17 ?_
  refine g_isub hx hb dX16_clinging_20 ?_
  refine lv_aload_n hx hb dX16_clinging_21 rfl (lv_at hl 3 rfl) ?_
  refine g_ci (va_runU (C := "LineRemarks$Loose") (As := [.int (zI (x - (rBy r : Int))), .ref tr]) (rest := [.int (zI ((x + (i9 : Int) - (i9 : Int)) * 2))]) ⟨hx, hb, hml, hown, hts⟩ (metX20_pointing_k4 (x := x - (rBy r : Int)) hrm hT2 (by rw [List.length_append, List.length_append]; simp only [List.length_cons, List.length_nil]; omega)) (va_cwO 2 hts (lw_O q3223 q3185 q3183 q3201 q3202 q149 q3203) rfl rfl rfl q3199 (by decide +kernel) ⟨Nat.le_of_ble_eq_true rfl, Nat.le_of_ble_eq_true rfl⟩) (g_preV hG (g_recv hG (hG.fz (show F.1 rm = some (oB 18 _) from hrm)) (ci := 18) rfl)) rfl rfl hl.1 rfl (lv_room (Nat.le_of_ble_eq_true rfl)) dX16_clinging_22 ⟨Nat.le_of_ble_eq_true rfl, Nat.le_of_ble_eq_true rfl⟩) hG (fun r_7 F_8 V_9 ws_ H locs hp hG => ?_)
  obtain ⟨rfl, rfl, hT3, hV3, rfl⟩ := hp
  have hG : gW X F V_9 (Z) s H locs := hG
  refine lv_ixor hx hb dX16_clinging_25 ?_
  exact g_iret hx hb hr hlocks hG (⟨rfl, rfl, (hT3.app3 rfl), ((hV1.tr hV2).tr hV3), rfl⟩) ⟨Nat.le_of_ble_eq_true rfl, Nat.le_of_ble_eq_true rfl⟩ dX16_clinging_26

set_option maxHeartbeats 4000000 in
theorem metX16_clinging_k5 {l : Launch} {X : gX} {F : gF} {V : gV} {Z : va_W} {rm tr tb i9 : Nat} {x : Int} {ra : Nat → Nat} {r : Rm} {t : List Int} (hrm : isRmk F ra rm 5 i9 r) (hT : xTr X V tr tb t) (hlen : t.length + 5 ≤ 20) : Met l yX16_clinging (ws_ yX16_clinging cX16_clinging 4 (some FieldType.int)) ({ frames := 4, cells := 0, slots := 0, locals := 87 }) (gP X F V (Z) [.ref rm, .int (zI x), .ref tr]) (gQi X (fun u G U ws => u = zI ((x + (i9 : Int)) * 2 * 3) ^^^ zI ((x - (rBy r : Int)) + (i9 : Int)) ∧ F = G ∧ xTr X U tr tb (t ++ [12, 30, 11, 10, 10]) ∧ vx23 V U ∧ Z = ws)) 0 0 (gA X) := by
  refine Met.g (by decide) (Nat.le_of_ble_eq_true rfl) ?_
  intro p e s m below meth c ls hx hb hr hts hown hlocks hml hin hG hl
  have hl : lv_has ls 4 [(0, .ref rm), (1, .int (zI x)), (2, .ref tr)] := hl
  refine lv_aload_n hx hb dX16_clinging_0 rfl (lv_at hl 2 rfl) ?_
  refine lv_bipush (v := zI 12) hx hb dX16_clinging_1 (by decide +kernel) ?_
  refine g_cv (va_runV (As := [.int (zI 12)]) (rest := []) ⟨hx, hb, hml, hown, hts⟩ (metX1_runs (b := 12) hT (by omega)) (cwV 1 hts (lw_V q3200 q3191 q3192 q88 q3193) rfl rfl rfl (by decide +kernel) ⟨Nat.le_of_ble_eq_true rfl, Nat.le_of_ble_eq_true rfl⟩) (g_preV hG (g_recv hG (hG.vo hT.1) (ci := 1) rfl)) rfl rfl hl.1 rfl (lv_room (Nat.le_of_ble_eq_true rfl)) dX16_clinging_3 ⟨Nat.le_of_ble_eq_true rfl, Nat.le_of_ble_eq_true rfl⟩) hG (fun F_2 V_3 ws_ H locs hp hG => ?_)
  obtain ⟨rfl, hT1, hV1, rfl⟩ := hp
  have hG : gW X F V_3 (Z) s H locs := hG
  refine lv_aload_n hx hb dX16_clinging_6 rfl (lv_at hl 0 rfl) ?_
  refine lv_iload_n hx hb dX16_clinging_7 rfl (lv_at hl 1 rfl) ?_
  refine lv_aload_n hx hb dX16_clinging_8 rfl (lv_at hl 2 rfl) ?_
  refine g_ci (va_runU (C := "LineRemarks$Wall") (As := [.int (zI x), .ref tr]) (rest := []) ⟨hx, hb, hml, hown, hts⟩ (metX18_weighing_k5 hrm hT1 (by rw [List.length_append]; simp only [List.length_cons, List.length_nil]; omega)) (va_cwO 2 hts (lw_O q3245 q3216 q3214 q3233 q3218 q147 q3219) rfl rfl rfl q3222 (by decide +kernel) ⟨Nat.le_of_ble_eq_true rfl, Nat.le_of_ble_eq_true rfl⟩) (g_preV hG (g_recv hG (hG.fz (show F.1 rm = some (oB 19 _) from hrm)) (ci := 19) rfl)) rfl rfl hl.1 rfl (lv_room (Nat.le_of_ble_eq_true rfl)) dX16_clinging_9 ⟨Nat.le_of_ble_eq_true rfl, Nat.le_of_ble_eq_true rfl⟩) hG (fun r_4 F_5 V_6 ws_ H locs hp hG => ?_)
  obtain ⟨rfl, rfl, hT2, hV2, rfl⟩ := hp
  have hG : gW X F V_6 (Z) s H locs := hG
  refine lv_istore_n (lv' := [(3, .int (zI ((x + (i9 : Int)) * 2 * 3))), (0, .ref rm), (1, .int (zI x)), (2, .ref tr)]) hx hb dX16_clinging_12 rfl hl (by decide) rfl (fun ls hl => ?_)
  refine lv_iload_n hx hb dX16_clinging_13 rfl (lv_at hl 0 rfl) ?_
  refine lv_aload_n hx hb dX16_clinging_14 rfl (lv_at hl 1 rfl) ?_
  refine lv_iload_n hx hb dX16_clinging_15 rfl (lv_at hl 2 rfl) ?_
  refine lv_aload_n hx hb dX16_clinging_16 rfl (lv_at hl 1 rfl) ?_
  refine g_get (ci := 19) hx hb hts in_X21 hown hG (hG.fz (show F.1 rm = some (oB 19 _) from hrm)) rfl 1 (Nat.le_of_ble_eq_true rfl) (hts _ q2067) (fun _ h9 => h9) rfl dX16_clinging_17 ?_
  refine g_isub hx hb dX16_clinging_20 ?_
  refine lv_aload_n hx hb dX16_clinging_21 rfl (lv_at hl 3 rfl) ?_
  refine g_ci (va_runU (C := "LineRemarks$Wall") (As := [.int (zI (x - (rBy r : Int))), .ref tr]) (rest := [.int (zI ((x + (i9 : Int)) * 2 * 3))]) ⟨hx, hb, hml, hown, hts⟩ (metX16_pointing_k5 (x := x - (rBy r : Int)) hrm hT2 (by rw [List.length_append, List.length_append]; simp only [List.length_cons, List.length_nil]; omega)) (va_cwU 2 hts (lw_U q3223 q3185 q3212 q3183 q145 q3199) rfl rfl rfl rfl (by decide +kernel) ⟨Nat.le_of_ble_eq_true rfl, Nat.le_of_ble_eq_true rfl⟩) (g_preV hG (g_recv hG (hG.fz (show F.1 rm = some (oB 19 _) from hrm)) (ci := 19) rfl)) rfl rfl hl.1 rfl (lv_room (Nat.le_of_ble_eq_true rfl)) dX16_clinging_22 ⟨Nat.le_of_ble_eq_true rfl, Nat.le_of_ble_eq_true rfl⟩) hG (fun r_7 F_8 V_9 ws_ H locs hp hG => ?_)
  obtain ⟨rfl, rfl, hT3, hV3, rfl⟩ := hp
  have hG : gW X F V_9 (Z) s H locs := hG
  refine lv_ixor hx hb dX16_clinging_25 ?_
  exact g_iret hx hb hr hlocks hG (⟨rfl, rfl, (hT3.app3 rfl), ((hV1.tr hV2).tr hV3), rfl⟩) ⟨Nat.le_of_ble_eq_true rfl, Nat.le_of_ble_eq_true rfl⟩ dX16_clinging_26

set_option maxHeartbeats 4000000 in
theorem metX16_clinging_k6 {l : Launch} {X : gX} {F : gF} {V : gV} {Z : va_W} {rm tr tb i9 : Nat} {x : Int} {ra : Nat → Nat} {r : Rm} {t : List Int} (hrm : isRmk F ra rm 6 i9 r) (hT : xTr X V tr tb t) (hlen : t.length + 11 ≤ 20) : Met l yX16_clinging (ws_ yX16_clinging cX16_clinging 4 (some FieldType.int)) ({ frames := 7, cells := 0, slots := 0, locals := 153 }) (gP X F V (Z) [.ref rm, .int (zI x), .ref tr]) (gQi X (fun u G U ws => u = zI ((((x - (rBy r : Int)) + 1 + (i9 : Int) + (rBy r : Int)) * 2) * 2) ^^^ zI (((x - (rBy r : Int)) + 1 + (i9 : Int) + (rBy r : Int)) * 2) ∧ F = G ∧ xTr X U tr tb (t ++ [12, 71, 11, 70, 40, 20, 10, 70, 40, 20, 10]) ∧ vx23 V U ∧ Z = ws)) 0 0 (gA X) := by
  refine Met.g (by decide) (Nat.le_of_ble_eq_true rfl) ?_
  intro p e s m below meth c ls hx hb hr hts hown hlocks hml hin hG hl
  have hl : lv_has ls 4 [(0, .ref rm), (1, .int (zI x)), (2, .ref tr)] := hl
  refine lv_aload_n hx hb dX16_clinging_0 rfl (lv_at hl 2 rfl) ?_
  refine lv_bipush (v := zI 12) hx hb dX16_clinging_1 (by decide +kernel) ?_
  refine g_cv (va_runV (As := [.int (zI 12)]) (rest := []) ⟨hx, hb, hml, hown, hts⟩ (metX1_runs (b := 12) hT (by omega)) (cwV 1 hts (lw_V q3200 q3191 q3192 q88 q3193) rfl rfl rfl (by decide +kernel) ⟨Nat.le_of_ble_eq_true rfl, Nat.le_of_ble_eq_true rfl⟩) (g_preV hG (g_recv hG (hG.vo hT.1) (ci := 1) rfl)) rfl rfl hl.1 rfl (lv_room (Nat.le_of_ble_eq_true rfl)) dX16_clinging_3 ⟨Nat.le_of_ble_eq_true rfl, Nat.le_of_ble_eq_true rfl⟩) hG (fun F_2 V_3 ws_ H locs hp hG => ?_)
  obtain ⟨rfl, hT1, hV1, rfl⟩ := hp
  have hG : gW X F V_3 (Z) s H locs := hG
  refine lv_aload_n hx hb dX16_clinging_6 rfl (lv_at hl 0 rfl) ?_
  refine lv_iload_n hx hb dX16_clinging_7 rfl (lv_at hl 1 rfl) ?_
  refine lv_aload_n hx hb dX16_clinging_8 rfl (lv_at hl 2 rfl) ?_
  refine g_ci (va_runU (C := "LineRemarks$Tail") (As := [.int (zI x), .ref tr]) (rest := []) ⟨hx, hb, hml, hown, hts⟩ (metX22_weighing_k6 hrm hT1 (by rw [List.length_append]; simp only [List.length_cons, List.length_nil]; omega)) (va_cwO 2 hts (lw_O q3245 q3216 q3214 q3227 q3228 q151 q3229) rfl rfl rfl q3222 (by decide +kernel) ⟨Nat.le_of_ble_eq_true rfl, Nat.le_of_ble_eq_true rfl⟩) (g_preV hG (g_recv hG (hG.fz (show F.1 rm = some (oB 20 _) from hrm)) (ci := 20) rfl)) rfl rfl hl.1 rfl (lv_room (Nat.le_of_ble_eq_true rfl)) dX16_clinging_9 ⟨Nat.le_of_ble_eq_true rfl, Nat.le_of_ble_eq_true rfl⟩) hG (fun r_4 F_5 V_6 ws_ H locs hp hG => ?_)
  obtain ⟨rfl, rfl, hT2, hV2, rfl⟩ := hp
  have hG : gW X F V_6 (Z) s H locs := hG
  refine lv_istore_n (lv' := [(3, .int (zI ((((x - (rBy r : Int)) + 1 + (i9 : Int) + (rBy r : Int)) * 2) * 2))), (0, .ref rm), (1, .int (zI x)), (2, .ref tr)]) hx hb dX16_clinging_12 rfl hl (by decide) rfl (fun ls hl => ?_)
  refine lv_iload_n hx hb dX16_clinging_13 rfl (lv_at hl 0 rfl) ?_
  refine lv_aload_n hx hb dX16_clinging_14 rfl (lv_at hl 1 rfl) ?_
  refine lv_iload_n hx hb dX16_clinging_15 rfl (lv_at hl 2 rfl) ?_
  refine lv_aload_n hx hb dX16_clinging_16 rfl (lv_at hl 1 rfl) ?_
  refine g_get (ci := 20) hx hb hts in_X22 hown hG (hG.fz (show F.1 rm = some (oB 20 _) from hrm)) rfl 1 (Nat.le_of_ble_eq_true rfl) (hts _ q2067) (fun _ h9 => h9) rfl dX16_clinging_17 ?_
  refine g_isub hx hb dX16_clinging_20 ?_
  refine lv_aload_n hx hb dX16_clinging_21 rfl (lv_at hl 3 rfl) ?_
  refine g_ci (va_runU (C := "LineRemarks$Tail") (As := [.int (zI (x - (rBy r : Int))), .ref tr]) (rest := [.int (zI ((((x - (rBy r : Int)) + 1 + (i9 : Int) + (rBy r : Int)) * 2) * 2))]) ⟨hx, hb, hml, hown, hts⟩ (metX22_pointing_k6 (x := x - (rBy r : Int)) hrm hT2 (by rw [List.length_append, List.length_append]; simp only [List.length_cons, List.length_nil]; omega)) (va_cwO 2 hts (lw_O q3223 q3185 q3183 q3207 q3208 q151 q3209) rfl rfl rfl q3199 (by decide +kernel) ⟨Nat.le_of_ble_eq_true rfl, Nat.le_of_ble_eq_true rfl⟩) (g_preV hG (g_recv hG (hG.fz (show F.1 rm = some (oB 20 _) from hrm)) (ci := 20) rfl)) rfl rfl hl.1 rfl (lv_room (Nat.le_of_ble_eq_true rfl)) dX16_clinging_22 ⟨Nat.le_of_ble_eq_true rfl, Nat.le_of_ble_eq_true rfl⟩) hG (fun r_7 F_8 V_9 ws_ H locs hp hG => ?_)
  obtain ⟨rfl, rfl, hT3, hV3, rfl⟩ := hp
  have hG : gW X F V_9 (Z) s H locs := hG
  refine lv_ixor hx hb dX16_clinging_25 ?_
  exact g_iret hx hb hr hlocks hG (⟨rfl, rfl, (hT3.app3 rfl), ((hV1.tr hV2).tr hV3), rfl⟩) ⟨Nat.le_of_ble_eq_true rfl, Nat.le_of_ble_eq_true rfl⟩ dX16_clinging_26

set_option maxHeartbeats 4000000 in
theorem metX20_clinging_k4 {l : Launch} {X : gX} {F : gF} {V : gV} {Z : va_W} {rm tr tb i9 : Nat} {x : Int} {ra : Nat → Nat} {r : Rm} {t : List Int} (hrm : isRmk F ra rm 4 i9 r) (hT : xTr X V tr tb t) (hlen : t.length + 7 ≤ 20) : Met l yX20_clinging (ws_ yX20_clinging cX20_clinging 3 (some FieldType.int)) ({ frames := 5, cells := 0, slots := 0, locals := 110 }) (gP X F V (Z) [.ref rm, .int (zI x), .ref tr]) (gQi X (fun u G U ws => u = -(zI ((x + (i9 : Int) - (i9 : Int)) * 2) ^^^ zI ((x - (rBy r : Int)) + (i9 : Int) - (i9 : Int))) ∧ F = G ∧ xTr X U tr tb (t ++ [50, 12, 11, 51, 10, 51, 10]) ∧ vx23 V U ∧ Z = ws)) 0 0 (gA X) := by
  refine Met.g (by decide) (Nat.le_of_ble_eq_true rfl) ?_
  intro p e s m below meth c ls hx hb hr hts hown hlocks hml hin hG hl
  have hl : lv_has ls 3 [(0, .ref rm), (1, .int (zI x)), (2, .ref tr)] := hl
  refine lv_aload_n hx hb dX20_clinging_0 rfl (lv_at hl 2 rfl) ?_
  refine lv_bipush (v := zI 50) hx hb dX20_clinging_1 (by decide +kernel) ?_
  refine g_cv (va_runV (As := [.int (zI 50)]) (rest := []) ⟨hx, hb, hml, hown, hts⟩ (metX1_runs (b := 50) hT (by omega)) (cwV 1 hts (lw_V q3204 q3191 q3192 q88 q3193) rfl rfl rfl (by decide +kernel) ⟨Nat.le_of_ble_eq_true rfl, Nat.le_of_ble_eq_true rfl⟩) (g_preV hG (g_recv hG (hG.vo hT.1) (ci := 1) rfl)) rfl rfl hl.1 rfl (lv_room (Nat.le_of_ble_eq_true rfl)) dX20_clinging_3 ⟨Nat.le_of_ble_eq_true rfl, Nat.le_of_ble_eq_true rfl⟩) hG (fun F_2 V_3 ws_ H locs hp hG => ?_)
  obtain ⟨rfl, hT1, hV1, rfl⟩ := hp
  have hG : gW X F V_3 (Z) s H locs := hG
  refine lv_aload_n hx hb dX20_clinging_6 rfl (lv_at hl 0 rfl) ?_
  refine lv_iload_n hx hb dX20_clinging_7 rfl (lv_at hl 1 rfl) ?_
  refine lv_aload_n hx hb dX20_clinging_8 rfl (lv_at hl 2 rfl) ?_
  refine g_ci (va_runSU (C := "LineRemarks$Loose") (g_cls hG (ci := 18) rfl) (As := [.int (zI x), .ref tr]) (rest := []) ⟨hx, hb, hml, hown, hts⟩ (metX16_clinging_k4 hrm hT1 (by rw [List.length_append]; simp only [List.length_cons, List.length_nil]; omega)) (va_cwSU 2 hts (lw_SU q3243 q3237 q2152 q3235 q145 q3244) rfl rfl rfl (by decide +kernel) ⟨Nat.le_of_ble_eq_true rfl, Nat.le_of_ble_eq_true rfl⟩) (g_preV hG (g_recv hG (hG.fz (show F.1 rm = some (oB 18 _) from hrm)) (ci := 18) rfl)) rfl rfl hl.1 rfl (lv_room (Nat.le_of_ble_eq_true rfl)) dX20_clinging_9 ⟨Nat.le_of_ble_eq_true rfl, Nat.le_of_ble_eq_true rfl⟩) hG (fun r_4 F_5 V_6 ws_ H locs hp hG => ?_)
  obtain ⟨rfl, rfl, hT2, hV2, rfl⟩ := hp
  have hG : gW X F V_6 (Z) s H locs := hG
  refine lv_ineg hx hb dX20_clinging_12 ?_
  exact g_iret hx hb hr hlocks hG (⟨rfl, rfl, (hT2.app rfl), (hV1.tr hV2), rfl⟩) ⟨Nat.le_of_ble_eq_true rfl, Nat.le_of_ble_eq_true rfl⟩ dX20_clinging_13

set_option maxHeartbeats 4000000 in
theorem metX21_clinging_k5 {l : Launch} {X : gX} {F : gF} {V : gV} {Z : va_W} {rm tr tb i9 : Nat} {x : Int} {ra : Nat → Nat} {r : Rm} {t : List Int} (hrm : isRmk F ra rm 5 i9 r) (hT : xTr X V tr tb t) (hlen : t.length + 6 ≤ 20) : Met l yX21_clinging (ws_ yX21_clinging cX21_clinging 3 (some FieldType.int)) ({ frames := 5, cells := 0, slots := 0, locals := 110 }) (gP X F V (Z) [.ref rm, .int (zI x), .ref tr]) (gQi X (fun u G U ws => u = zI ((x + (i9 : Int)) * 2 * 3) ^^^ zI ((x - (rBy r : Int)) + (i9 : Int)) ^^^ zI 5 ∧ F = G ∧ xTr X U tr tb (t ++ [60, 12, 30, 11, 10, 10]) ∧ vx23 V U ∧ Z = ws)) 0 0 (gA X) := by
  refine Met.g (by decide) (Nat.le_of_ble_eq_true rfl) ?_
  intro p e s m below meth c ls hx hb hr hts hown hlocks hml hin hG hl
  have hl : lv_has ls 3 [(0, .ref rm), (1, .int (zI x)), (2, .ref tr)] := hl
  refine lv_aload_n hx hb dX21_clinging_0 rfl (lv_at hl 2 rfl) ?_
  refine lv_bipush (v := zI 60) hx hb dX21_clinging_1 (by decide +kernel) ?_
  refine g_cv (va_runV (As := [.int (zI 60)]) (rest := []) ⟨hx, hb, hml, hown, hts⟩ (metX1_runs (b := 60) hT (by omega)) (cwV 1 hts (lw_V q3251 q3191 q3192 q88 q3193) rfl rfl rfl (by decide +kernel) ⟨Nat.le_of_ble_eq_true rfl, Nat.le_of_ble_eq_true rfl⟩) (g_preV hG (g_recv hG (hG.vo hT.1) (ci := 1) rfl)) rfl rfl hl.1 rfl (lv_room (Nat.le_of_ble_eq_true rfl)) dX21_clinging_3 ⟨Nat.le_of_ble_eq_true rfl, Nat.le_of_ble_eq_true rfl⟩) hG (fun F_2 V_3 ws_ H locs hp hG => ?_)
  obtain ⟨rfl, hT1, hV1, rfl⟩ := hp
  have hG : gW X F V_3 (Z) s H locs := hG
  refine lv_aload_n hx hb dX21_clinging_6 rfl (lv_at hl 0 rfl) ?_
  refine lv_iload_n hx hb dX21_clinging_7 rfl (lv_at hl 1 rfl) ?_
  refine lv_aload_n hx hb dX21_clinging_8 rfl (lv_at hl 2 rfl) ?_
  refine g_ci (va_runSX (n := 2) (C := "LineRemarks$Wall") (D := "LineRemarks$Block") (g_cls hG (ci := 19) rfl) (As := [.int (zI x), .ref tr]) (rest := []) ⟨hx, hb, hml, hown, hts⟩ (metX16_clinging_k5 hrm hT1 (by rw [List.length_append]; simp only [List.length_cons, List.length_nil]; omega)) (lw_meth q3244) q3252 q3253 q2165 q3235 q145 (sub_1 (hts _ q2126)) rfl rfl (by decide +kernel) ⟨Nat.le_of_ble_eq_true rfl, Nat.le_of_ble_eq_true rfl⟩ (g_preV hG (g_recv hG (hG.fz (show F.1 rm = some (oB 19 _) from hrm)) (ci := 19) rfl)) rfl rfl hl.1 rfl (lv_room (Nat.le_of_ble_eq_true rfl)) dX21_clinging_9 ⟨Nat.le_of_ble_eq_true rfl, Nat.le_of_ble_eq_true rfl⟩) hG (fun r_4 F_5 V_6 ws_ H locs hp hG => ?_)
  obtain ⟨rfl, rfl, hT2, hV2, rfl⟩ := hp
  have hG : gW X F V_6 (Z) s H locs := hG
  refine lv_iconst (v := zI 5) hx hb dX21_clinging_12 (by decide +kernel) ?_
  refine lv_ixor hx hb dX21_clinging_13 ?_
  exact g_iret hx hb hr hlocks hG (⟨rfl, rfl, (hT2.app rfl), (hV1.tr hV2), rfl⟩) ⟨Nat.le_of_ble_eq_true rfl, Nat.le_of_ble_eq_true rfl⟩ dX21_clinging_14

