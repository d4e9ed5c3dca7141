set_option maxRecDepth 100000
theorem hdO_pos {N : List Nd} (h : 0 < N.length) : hdO N = some (nA N 0) := if_pos h
theorem tlO_pos {N : List Nd} (h : 0 < N.length) : tlO N = some (nA N (N.length - 1)) := if_pos h
theorem llE_rem {mo : Int} {N : List Nd} {i : Nat} (h : i < N.length) : llE mo (N.eraseIdx i) = oB 27 [.int (zI mo), .int (zI ((N.length : Int) - 1)), va_rf (if i = 0 then nxO N 0 else some (nA N 0)), va_rf (if i + 1 = N.length then pvO N i else some (nA N (N.length - 1)))] := by
  have len : (N.eraseIdx i).length = N.length - 1 := List.length_eraseIdx_of_lt h
  have e0 : hdO (N.eraseIdx i) = if i = 0 then nxO N 0 else some (nA N 0) := by
    unfold hdO
    rw [len]
    show (if 0 < N.length - 1 then some (nG (N.eraseIdx i) 0).2.1 else none) = _
    rw [rmN_get]
    by_cases e : i = 0
    · subst e
      rw [if_neg (Nat.lt_irrefl _), if_pos rfl]
      unfold nxO
      by_cases e2 : 0 + 1 < N.length
      · rw [if_pos (by omega), if_pos e2]; rfl
      · rw [if_neg (by omega), if_neg e2]
    · rw [if_pos (by omega), if_pos (by omega), if_neg e]; rfl
  have e1 : tlO (N.eraseIdx i) = if i + 1 = N.length then pvO N i else some (nA N (N.length - 1)) := by
    unfold tlO
    rw [len]
    show (if 0 < N.length - 1 then some (nG (N.eraseIdx i) (N.length - 1 - 1)).2.1 else none) = _
    rw [rmN_get]
    by_cases e : i + 1 = N.length
    · rw [if_pos e]
      unfold pvO
      by_cases e2 : i = 0
      · rw [if_neg (by omega), if_pos e2]
      · rw [if_pos (by omega), if_pos (by omega), if_neg e2, show N.length - 1 - 1 = i - 1 by omega]; rfl
    · rw [if_pos (by omega), if_neg e, if_neg (by omega), show N.length - 1 - 1 + 1 = N.length - 1 by omega]; rfl
  unfold llE
  rw [e0, e1, len, show (((N.length - 1 : Nat)) : Int) = (N.length : Int) - 1 by omega]
theorem llE_set {mo : Int} {N : List Nd} {i t : Nat} : llE mo (N.set i (nR N i, nA N i, t)) = llE mo N := by
  have len : (N.set i (nR N i, nA N i, t)).length = N.length := List.length_set
  have rA : ∀ j, nA (N.set i (nR N i, nA N i, t)) j = nA N j := fun j => by
    show (nG (N.set i (nR N i, nA N i, t)) j).2.1 = _
    unfold nG
    rw [List.getD_eq_getElem?_getD, List.getElem?_set]
    by_cases e : i = j
    · subst e
      rw [if_pos rfl]
      by_cases h : i < N.length
      · rw [if_pos h]; rfl
      · rw [if_neg h]; unfold nA nG; rw [List.getD_eq_getElem?_getD, List.getElem?_eq_none (by omega)]
    · rw [if_neg e]; unfold nA nG; rw [List.getD_eq_getElem?_getD]
  unfold llE hdO tlO
  rw [len, rA, rA]
set_option maxHeartbeats 4000000 in
theorem metJ41_size {l : Launch} {X : gX} {F : gF} {V : gV} {Z : va_W} {ll : Nat} {mo : Int} {N : List Nd} : Met l yJ41_size (ws_ yJ41_size cJ41_size 1 (some FieldType.int)) ({ frames := 0, cells := 0, slots := 0, locals := 0 }) (gP X F V ((ll, oB 27 [.int (zI mo), .int (zI (N.length : Int)), va_rf (hdO N), va_rf (tlO N)]) :: Z) [.ref ll]) (gQi X (fun u G U ws => u = zI (N.length : Int) ∧ F = G ∧ V = U ∧ ((ll, oB 27 [.int (zI mo), .int (zI (N.length : Int)), va_rf (hdO N), va_rf (tlO N)]) :: Z) = ws)) 0 0 (gA X) := by
  refine Met.g (by decide) (Nat.le_of_ble_eq_true rfl) ?_
  intro p e s m below meth c ls hx hb hr hts hown hlocks hml hin hG hl
  have hl : lv_has ls 1 [(0, .ref ll)] := hl
  refine lv_aload_n hx hb dJ41_size_0 rfl (lv_at hl 0 rfl) ?_
  refine g_get (ci := 27) hx hb hts in_J41 hown hG (hG.at 0 rfl) rfl 1 (Nat.le_of_ble_eq_true rfl) (hts _ q2507) (fun _ h9 => h9) rfl dJ41_size_1 ?_
  exact g_iret hx hb hr hlocks hG (⟨rfl, rfl, rfl, rfl⟩) ⟨Nat.le_of_ble_eq_true rfl, Nat.le_of_ble_eq_true rfl⟩ dJ41_size_4

set_option maxHeartbeats 4000000 in
theorem metJ5_isEmpty {l : Launch} {X : gX} {F : gF} {V : gV} {Z : va_W} {ll : Nat} {mo : Int} {N : List Nd} (h24 : N.length ≤ 1000) : Met l yJ5_isEmpty (ws_ yJ5_isEmpty cJ5_isEmpty 1 (some FieldType.boolean)) ({ frames := 1, cells := 0, slots := 0, locals := 20 }) (gP X F V ((ll, oB 27 [.int (zI mo), .int (zI (N.length : Int)), va_rf (hdO N), va_rf (tlO N)]) :: Z) [.ref ll]) (gQi X (fun u G U ws => u = zI (bI (decide (N.length = 0))) ∧ F = G ∧ V = U ∧ ((ll, oB 27 [.int (zI mo), .int (zI (N.length : Int)), va_rf (hdO N), va_rf (tlO N)]) :: Z) = ws)) 0 0 (gA X) := by
  refine Met.g (by decide) (Nat.le_of_ble_eq_true rfl) ?_
  intro p e s m below meth c ls hx hb hr hts hown hlocks hml hin hG hl
  have hl : lv_has ls 1 [(0, .ref ll)] := hl
  refine lv_aload_n hx hb dJ5_isEmpty_0 rfl (lv_at hl 0 rfl) ?_
  refine g_ci (va_runU (C := "java/util/LinkedList") (As := []) (rest := []) ⟨hx, hb, hml, hown, hts⟩ (metJ41_size) (va_cwA 0 hts (lw_U q3154 q3768 q3774 q932 q156 q933) rfl rfl rfl (hG.1.2.1.1 _ qn924) (by decide +kernel) ⟨Nat.le_of_ble_eq_true rfl, Nat.le_of_ble_eq_true rfl⟩) (g_preV hG (g_recv hG (hG.at 0 rfl) (ci := 27) rfl)) rfl rfl hl.1 rfl (lv_room (Nat.le_of_ble_eq_true rfl)) dJ5_isEmpty_1 ⟨Nat.le_of_ble_eq_true rfl, Nat.le_of_ble_eq_true rfl⟩) hG (fun r_1 F_2 V_3 ws_ H locs hp hG => ?_)
  obtain ⟨rfl, rfl, rfl, rfl⟩ := hp
  have hG : gW X F V ((ll, oB 27 [.int (zI mo), .int (zI (N.length : Int)), va_rf (hdO N), va_rf (tlO N)]) :: Z) s H locs := hG
  refine g_ne (tgt := 11) hx hb dJ5_isEmpty_4 (by decide) (by omega) (fun h1 => ?_) (fun h1 => ?_)
  · refine lv_iconst (v := zI 0) hx hb dJ5_isEmpty_11 (by decide +kernel) ?_
    exact g_zret hx hb hr hlocks rfl hG (⟨by rw [decide_eq_false (by omega)]; rfl, rfl, rfl, rfl⟩) ⟨Nat.le_of_ble_eq_true rfl, Nat.le_of_ble_eq_true rfl⟩ dJ5_isEmpty_12
  · refine lv_iconst (v := zI 1) hx hb dJ5_isEmpty_7 (by decide +kernel) ?_
    refine lv_goto (tgt := 12) hx hb dJ5_isEmpty_8 (by decide) ?_
    exact g_zret hx hb hr hlocks rfl hG (⟨by rw [decide_eq_true (by omega)]; rfl, rfl, rfl, rfl⟩) ⟨Nat.le_of_ble_eq_true rfl, Nat.le_of_ble_eq_true rfl⟩ dJ5_isEmpty_12

set_option maxHeartbeats 4000000 in
theorem metJ41_isElementIndex {l : Launch} {X : gX} {F : gF} {V : gV} {Z : va_W} {ll i : Nat} {mo : Int} {N : List Nd} (h24 : N.length ≤ 1000) (hi : i < N.length) : Met l yJ41_isElementIndex (ws_ yJ41_isElementIndex cJ41_isElementIndex 2 (some FieldType.boolean)) ({ frames := 0, cells := 0, slots := 0, locals := 0 }) (gP X F V ((ll, oB 27 [.int (zI mo), .int (zI (N.length : Int)), va_rf (hdO N), va_rf (tlO N)]) :: Z) [.ref ll, .int (zI (i : Int))]) (gQi X (fun u G U ws => u = zI 1 ∧ F = G ∧ V = U ∧ ((ll, oB 27 [.int (zI mo), .int (zI (N.length : Int)), va_rf (hdO N), va_rf (tlO N)]) :: Z) = ws)) 0 0 (gA X) := by
  refine Met.g (by decide) (Nat.le_of_ble_eq_true rfl) ?_
  intro p e s m below meth c ls hx hb hr hts hown hlocks hml hin hG hl
  have hl : lv_has ls 2 [(0, .ref ll), (1, .int (zI (i : Int)))] := hl
  refine lv_iload_n hx hb dJ41_isElementIndex_0 rfl (lv_at hl 1 rfl) ?_
  refine g_lt (tgt := 16) hx hb dJ41_isElementIndex_1 (by decide) (by omega) (fun h1 => ?_) (fun h1 => ?_)
  · exfalso; omega
  · refine lv_iload_n hx hb dJ41_isElementIndex_4 rfl (lv_at hl 1 rfl) ?_
    refine lv_aload_n hx hb dJ41_isElementIndex_5 rfl (lv_at hl 0 rfl) ?_
    refine g_get (ci := 27) hx hb hts in_J41 hown hG (hG.at 0 rfl) rfl 1 (Nat.le_of_ble_eq_true rfl) (hts _ q2507) (fun _ h9 => h9) rfl dJ41_isElementIndex_6 ?_
    refine g_cge (tgt := 16) hx hb dJ41_isElementIndex_9 (by decide) (by omega) (fun h2 => ?_) (fun h2 => ?_)
    · exfalso; omega
    · refine lv_iconst (v := zI 1) hx hb dJ41_isElementIndex_12 (by decide +kernel) ?_
      refine lv_goto (tgt := 17) hx hb dJ41_isElementIndex_13 (by decide) ?_
      exact g_zret hx hb hr hlocks rfl hG (⟨rfl, rfl, rfl, rfl⟩) ⟨Nat.le_of_ble_eq_true rfl, Nat.le_of_ble_eq_true rfl⟩ dJ41_isElementIndex_17

set_option maxHeartbeats 4000000 in
theorem metJ41_checkElementIndex {l : Launch} {X : gX} {F : gF} {V : gV} {Z : va_W} {ll i : Nat} {mo : Int} {N : List Nd} (h24 : N.length ≤ 1000) (hi : i < N.length) : Met l yJ41_checkElementIndex (ws_ yJ41_checkElementIndex cJ41_checkElementIndex 2 none) ({ frames := 1, cells := 0, slots := 0, locals := 21 }) (gP X F V ((ll, oB 27 [.int (zI mo), .int (zI (N.length : Int)), va_rf (hdO N), va_rf (tlO N)]) :: Z) [.ref ll, .int (zI (i : Int))]) (gQv X (fun G U ws => F = G ∧ V = U ∧ ((ll, oB 27 [.int (zI mo), .int (zI (N.length : Int)), va_rf (hdO N), va_rf (tlO N)]) :: Z) = ws)) 0 0 (gA X) := by
  refine Met.g (by decide) (Nat.le_of_ble_eq_true rfl) ?_
  intro p e s m below meth c ls hx hb hr hts hown hlocks hml hin hG hl
  have hl : lv_has ls 2 [(0, .ref ll), (1, .int (zI (i : Int)))] := hl
  refine lv_aload_n hx hb dJ41_checkElementIndex_0 rfl (lv_at hl 0 rfl) ?_
  refine lv_iload_n hx hb dJ41_checkElementIndex_1 rfl (lv_at hl 1 rfl) ?_
  refine g_ci (va_runV (As := [.int (zI (i : Int))]) (rest := []) ⟨hx, hb, hml, hown, hts⟩ (metJ41_isElementIndex (i := i) h24 hi) (cwV 1 hts (lw_V q1554 q1556 qs18 q156 q1557) rfl rfl rfl (by decide +kernel) ⟨Nat.le_of_ble_eq_true rfl, Nat.le_of_ble_eq_true rfl⟩) (g_preV hG (g_recv hG (hG.at 0 rfl) (ci := 27) rfl)) rfl rfl hl.1 rfl (lv_room (Nat.le_of_ble_eq_true rfl)) dJ41_checkElementIndex_2 ⟨Nat.le_of_ble_eq_true rfl, Nat.le_of_ble_eq_true rfl⟩) hG (fun r_1 F_2 V_3 ws_ H locs hp hG => ?_)
  obtain ⟨rfl, rfl, rfl, rfl⟩ := hp
  have hG : gW X F V ((ll, oB 27 [.int (zI mo), .int (zI (N.length : Int)), va_rf (hdO N), va_rf (tlO N)]) :: Z) s H locs := hG
  refine g_ne (tgt := 21) hx hb dJ41_checkElementIndex_5 (by decide) (by decide) (fun h1 => ?_) (fun h1 => ?_)
  · exact g_vret hx hb hr hlocks hG (⟨rfl, rfl, rfl⟩) ⟨Nat.le_of_ble_eq_true rfl, Nat.le_of_ble_eq_true rfl⟩ dJ41_checkElementIndex_21
  · exfalso; omega

set_option maxHeartbeats 4000000 in
theorem metJ41_isPositionIndex {l : Launch} {X : gX} {F : gF} {V : gV} {Z : va_W} {ll i : Nat} {mo : Int} {N : List Nd} (h24 : N.length ≤ 1000) (hi : i ≤ N.length) : Met l yJ41_isPositionIndex (ws_ yJ41_isPositionIndex cJ41_isPositionIndex 2 (some FieldType.boolean)) ({ frames := 0, cells := 0, slots := 0, locals := 0 }) (gP X F V ((ll, oB 27 [.int (zI mo), .int (zI (N.length : Int)), va_rf (hdO N), va_rf (tlO N)]) :: Z) [.ref ll, .int (zI (i : Int))]) (gQi X (fun u G U ws => u = zI 1 ∧ F = G ∧ V = U ∧ ((ll, oB 27 [.int (zI mo), .int (zI (N.length : Int)), va_rf (hdO N), va_rf (tlO N)]) :: Z) = ws)) 0 0 (gA X) := by
  refine Met.g (by decide) (Nat.le_of_ble_eq_true rfl) ?_
  intro p e s m below meth c ls hx hb hr hts hown hlocks hml hin hG hl
  have hl : lv_has ls 2 [(0, .ref ll), (1, .int (zI (i : Int)))] := hl
  refine lv_iload_n hx hb dJ41_isPositionIndex_0 rfl (lv_at hl 1 rfl) ?_
  refine g_lt (tgt := 16) hx hb dJ41_isPositionIndex_1 (by decide) (by omega) (fun h1 => ?_) (fun h1 => ?_)
  · exfalso; omega
  · refine lv_iload_n hx hb dJ41_isPositionIndex_4 rfl (lv_at hl 1 rfl) ?_
    refine lv_aload_n hx hb dJ41_isPositionIndex_5 rfl (lv_at hl 0 rfl) ?_
    refine g_get (ci := 27) hx hb hts in_J41 hown hG (hG.at 0 rfl) rfl 1 (Nat.le_of_ble_eq_true rfl) (hts _ q2507) (fun _ h9 => h9) rfl dJ41_isPositionIndex_6 ?_
    refine g_cgt (tgt := 16) hx hb dJ41_isPositionIndex_9 (by decide) (by omega) (fun h2 => ?_) (fun h2 => ?_)
    · exfalso; omega
    · refine lv_iconst (v := zI 1) hx hb dJ41_isPositionIndex_12 (by decide +kernel) ?_
      refine lv_goto (tgt := 17) hx hb dJ41_isPositionIndex_13 (by decide) ?_
      exact g_zret hx hb hr hlocks rfl hG (⟨rfl, rfl, rfl, rfl⟩) ⟨Nat.le_of_ble_eq_true rfl, Nat.le_of_ble_eq_true rfl⟩ dJ41_isPositionIndex_17

set_option maxHeartbeats 4000000 in
theorem metJ41_checkPositionIndex {l : Launch} {X : gX} {F : gF} {V : gV} {Z : va_W} {ll i : Nat} {mo : Int} {N : List Nd} (h24 : N.length ≤ 1000) (hi : i ≤ N.length) : Met l yJ41_checkPositionIndex (ws_ yJ41_checkPositionIndex cJ41_checkPositionIndex 2 none) ({ frames := 1, cells := 0, slots := 0, locals := 21 }) (gP X F V ((ll, oB 27 [.int (zI mo), .int (zI (N.length : Int)), va_rf (hdO N), va_rf (tlO N)]) :: Z) [.ref ll, .int (zI (i : Int))]) (gQv X (fun G U ws => F = G ∧ V = U ∧ ((ll, oB 27 [.int (zI mo), .int (zI (N.length : Int)), va_rf (hdO N), va_rf (tlO N)]) :: Z) = ws)) 0 0 (gA X) := by
  refine Met.g (by decide) (Nat.le_of_ble_eq_true rfl) ?_
  intro p e s m below meth c ls hx hb hr hts hown hlocks hml hin hG hl
  have hl : lv_has ls 2 [(0, .ref ll), (1, .int (zI (i : Int)))] := hl
  refine lv_aload_n hx hb dJ41_checkPositionIndex_0 rfl (lv_at hl 0 rfl) ?_
  refine lv_iload_n hx hb dJ41_checkPositionIndex_1 rfl (lv_at hl 1 rfl) ?_
  refine g_ci (va_runV (As := [.int (zI (i : Int))]) (rest := []) ⟨hx, hb, hml, hown, hts⟩ (metJ41_isPositionIndex (i := i) h24 hi) (cwV 1 hts (lw_V q1199 q1201 qs15 q156 q1202) rfl rfl rfl (by decide +kernel) ⟨Nat.le_of_ble_eq_true rfl, Nat.le_of_ble_eq_true rfl⟩) (g_preV hG (g_recv hG (hG.at 0 rfl) (ci := 27) rfl)) rfl rfl hl.1 rfl (lv_room (Nat.le_of_ble_eq_true rfl)) dJ41_checkPositionIndex_2 ⟨Nat.le_of_ble_eq_true rfl, Nat.le_of_ble_eq_true rfl⟩) hG (fun r_1 F_2 V_3 ws_ H locs hp hG => ?_)
  obtain ⟨rfl, rfl, rfl, rfl⟩ := hp
  have hG : gW X F V ((ll, oB 27 [.int (zI mo), .int (zI (N.length : Int)), va_rf (hdO N), va_rf (tlO N)]) :: Z) s H locs := hG
  refine g_ne (tgt := 21) hx hb dJ41_checkPositionIndex_5 (by decide) (by decide) (fun h1 => ?_) (fun h1 => ?_)
  · exact g_vret hx hb hr hlocks hG (⟨rfl, rfl, rfl⟩) ⟨Nat.le_of_ble_eq_true rfl, Nat.le_of_ble_eq_true rfl⟩ dJ41_checkPositionIndex_21
  · exfalso; omega

set_option maxHeartbeats 4000000 in
theorem metJ41_node {l : Launch} {X : gX} {F : gF} {V : gV} {Z : va_W} {i ll B : Nat} {mo : Int} {N : List Nd} (hN : llN V B N) (h24 : N.length ≤ 1000) (hi : i < N.length) : Met l yJ41_node (ws_ yJ41_node cJ41_node 4 (some (FieldType.object "java/util/LinkedList$Node"))) ({ frames := 0, cells := 0, slots := 0, locals := 0 }) (gP X F V ((ll, oB 27 [.int (zI mo), .int (zI (N.length : Int)), va_rf (hdO N), va_rf (tlO N)]) :: Z) [.ref ll, .int (zI (i : Int))]) (gQr X (fun u G U ws => u = nA N i ∧ F = G ∧ V = U ∧ ((ll, oB 27 [.int (zI mo), .int (zI (N.length : Int)), va_rf (hdO N), va_rf (tlO N)]) :: Z) = ws)) 0 0 (gA X) := by
  refine Met.g (by decide) (Nat.le_of_ble_eq_true rfl) ?_
  intro p e s m below meth c ls hx hb hr hts hown hlocks hml hin hG hl
  have hl : lv_has ls 4 [(0, .ref ll), (1, .int (zI (i : Int)))] := hl
  have h0 : 0 < N.length := by omega
  have ehd : hdO N = some (nA N 0) := if_pos h0
  have etl : tlO N = some (nA N (N.length - 1)) := if_pos h0
  rw [ehd, etl] at hG
  have hG : gW X F V ((ll, oB 27 [.int (zI mo), .int (zI (N.length : Int)), .ref (nA N 0), .ref (nA N (N.length - 1))]) :: Z) s _ _ := hG
  refine lv_iload_n hx hb dJ41_node_0 rfl (lv_at hl 1 rfl) ?_
  refine lv_aload_n hx hb dJ41_node_1 rfl (lv_at hl 0 rfl) ?_
  refine g_get (ci := 27) hx hb hts in_J41 hown hG (hG.at 0 rfl) rfl 1 (Nat.le_of_ble_eq_true rfl) (hts _ q2507) (fun _ h9 => h9) rfl dJ41_node_2 ?_
  refine lv_iconst (v := zI 1) hx hb dJ41_node_5 (by decide +kernel) ?_
  refine lv_ishr hx hb dJ41_node_6 ?_
  refine lv_topx (zI ((N.length / 2 : Nat) : Int)) (shr1 (by omega)) ?_
  refine g_cge (tgt := 35) hx hb dJ41_node_7 (by decide) (by omega) (fun h1 => ?_) (fun h1 => ?_)
  · refine lv_aload_n hx hb dJ41_node_35 rfl (lv_at hl 0 rfl) ?_
    refine g_get (ci := 27) hx hb hts in_J41 hown hG (hG.at 0 rfl) rfl 3 (Nat.le_of_ble_eq_true rfl) (hts _ q2510) (fun _ h9 => h9) rfl dJ41_node_36 ?_
    refine lv_astore_n (lv' := [(2, .ref (nA N (N.length - 1))), (0, .ref ll), (1, .int (zI (i : Int)))]) hx hb dJ41_node_39 rfl hl (by decide) rfl (fun ls hl => ?_)
    refine lv_aload_n hx hb dJ41_node_40 rfl (lv_at hl 1 rfl) ?_
    refine g_get (ci := 27) hx hb hts in_J41 hown hG (hG.at 0 rfl) rfl 1 (Nat.le_of_ble_eq_true rfl) (hts _ q2507) (fun _ h9 => h9) rfl dJ41_node_41 ?_
    refine lv_iconst (v := zI 1) hx hb dJ41_node_44 (by decide +kernel) ?_
    refine g_isub hx hb dJ41_node_45 ?_
    refine lv_istore_n (lv' := [(3, .int (zI ((N.length : Int) - 1))), (2, .ref (nA N (N.length - 1))), (0, .ref ll), (1, .int (zI (i : Int)))]) hx hb dJ41_node_46 rfl hl (by decide) rfl (fun ls hl => ?_)
    have hl : lv_has ls 4 [(3, .int (zI ((N.length - 1 - 0 : Nat) : Int))), (2, .ref (nA N (N.length - 1 - 0))), (0, .ref ll), (1, .int (zI (i : Int)))] := by rw [Nat.sub_zero, show ((N.length - 1 : Nat) : Int) = (N.length : Int) - 1 by omega]; exact hl
    refine g_loop (fun mz H locs ls => ∃ (j : Nat), (j + i ≤ N.length - 1 ∧ mz = N.length - j) ∧ gW X F V ((ll, oB 27 [.int (zI mo), .int (zI (N.length : Int)), .ref (nA N 0), .ref (nA N (N.length - 1))]) :: Z) s H locs ∧ lv_has ls 4 [(0, .ref ll), (1, .int (zI (i : Int))), (2, .ref (nA N (N.length - 1 - j))), (3, .int (zI ((N.length - 1 - j : Nat) : Int)))]) (N.length - 0) ⟨0, ⟨by omega, rfl⟩, hG, (lv_sub hl [2, 3, 1, 0] rfl)⟩ (fun mz ihB H locs ls hI => ?_)
    obtain ⟨j, ⟨hj, hmz⟩, hG, hl⟩ := hI
    refine lv_iload_n hx hb dJ41_node_47 rfl (lv_at hl 3 rfl) ?_
    refine lv_iload_n hx hb dJ41_node_48 rfl (lv_at hl 1 rfl) ?_
    refine g_cle (tgt := 63) hx hb dJ41_node_49 (by decide) (by omega) (fun h2 => ?_) (fun h2 => ?_)
    · have hji : N.length - 1 - j = i := by omega
      have hl : lv_has ls 4 [(0, .ref ll), (1, .int (zI (i : Int))), (2, .ref (nA N i)), (3, .int (zI (i : Int)))] := by rw [hji] at hl; exact hl
      refine lv_aload_n hx hb dJ41_node_63 rfl (lv_at hl 2 rfl) ?_
      have hG : gW X F V ((ll, oB 27 [.int (zI mo), .int (zI (N.length : Int)), va_rf (hdO N), va_rf (tlO N)]) :: Z) s H locs := by rw [ehd, etl]; exact hG
      exact g_rret hx hb hr (Or.inl ⟨_, rfl⟩) hlocks hG (⟨rfl, rfl, rfl, rfl⟩) ⟨Nat.le_of_ble_eq_true rfl, Nat.le_of_ble_eq_true rfl⟩ dJ41_node_64
    · have hnd1 := hN.2.2.2 (N.length - 1 - j) (by omega)
      have hrb1 := hN.2.1 (N.length - 1 - j) (by omega)
      rw [show pvO N (N.length - 1 - j) = some (nA N (N.length - 1 - (j + 1))) from (if_neg (by omega)).trans (by rw [show N.length - 1 - j - 1 = N.length - 1 - (j + 1) by omega])] at hnd1
      have hnd1 : V (nR N (N.length - 1 - j)) = some (nA N (N.length - 1 - j), oB 28 [.ref (nT N (N.length - 1 - j)), va_rf (nxO N (N.length - 1 - j)), .ref (nA N (N.length - 1 - (j + 1)))]) := hnd1
      refine lv_aload_n hx hb dJ41_node_52 rfl (lv_at hl 2 rfl) ?_
      refine g_get (ci := 28) hx hb hts in_J28 hown hG (hG.vo hnd1) rfl 2 (Nat.le_of_ble_eq_true rfl) (hts _ q1233) (fun _ h9 => h9) rfl dJ41_node_53 ?_
      refine lv_astore_n (lv' := [(2, .ref (nA N (N.length - 1 - (j + 1)))), (0, .ref ll), (1, .int (zI (i : Int))), (3, .int (zI ((N.length - 1 - j : Nat) : Int)))]) hx hb dJ41_node_56 rfl hl (by decide) rfl (fun ls hl => ?_)
      refine lv_iinc (v := zI (((N.length - 1 - j : Nat) : Int) - 1 : Int)) (lv' := [(3, .int (zI (((N.length - 1 - j : Nat) : Int) - 1 : Int))), (2, .ref (nA N (N.length - 1 - (j + 1)))), (0, .ref ll), (1, .int (zI (i : Int)))]) hx hb dJ41_node_57 hl (k := 3) rfl ((zI_add _ _).trans (congrArg zI (by omega))) (by decide) rfl (fun ls hl => ?_)
      refine lv_goto (tgt := 47) hx hb dJ41_node_60 (by decide) ?_
      have hl : lv_has ls 4 [(3, .int (zI ((N.length - 1 - (j + 1) : Nat) : Int))), (2, .ref (nA N (N.length - 1 - (j + 1)))), (0, .ref ll), (1, .int (zI (i : Int)))] := by rw [show ((N.length - 1 - (j + 1) : Nat) : Int) = ((N.length - 1 - j : Nat) : Int) - 1 by omega]; exact hl
      exact ihB (N.length - (j + 1)) (by omega) H locs ls ⟨(j + 1), ⟨by omega, rfl⟩, hG, (lv_sub hl [2, 3, 1, 0] rfl)⟩
  · refine lv_aload_n hx hb dJ41_node_10 rfl (lv_at hl 0 rfl) ?_
    refine g_get (ci := 27) hx hb hts in_J41 hown hG (hG.at 0 rfl) rfl 2 (Nat.le_of_ble_eq_true rfl) (hts _ q2509) (fun _ h9 => h9) rfl dJ41_node_11 ?_
    refine lv_astore_n (lv' := [(2, .ref (nA N 0)), (0, .ref ll), (1, .int (zI (i : Int)))]) hx hb dJ41_node_14 rfl hl (by decide) rfl (fun ls hl => ?_)
    refine lv_iconst (v := zI 0) hx hb dJ41_node_15 (by decide +kernel) ?_
    refine lv_istore_n (lv' := [(3, .int (zI 0)), (2, .ref (nA N 0)), (0, .ref ll), (1, .int (zI (i : Int)))]) hx hb dJ41_node_16 rfl hl (by decide) rfl (fun ls hl => ?_)
    refine g_loop (fun mz H locs ls => ∃ (j : Nat), (j ≤ i ∧ mz = i - j) ∧ gW X F V ((ll, oB 27 [.int (zI mo), .int (zI (N.length : Int)), .ref (nA N 0), .ref (nA N (N.length - 1))]) :: Z) s H locs ∧ lv_has ls 4 [(0, .ref ll), (1, .int (zI (i : Int))), (2, .ref (nA N j)), (3, .int (zI (j : Int)))]) (i - 0) ⟨0, ⟨by omega, rfl⟩, hG, (lv_sub hl [2, 3, 1, 0] rfl)⟩ (fun mz ihA H locs ls hI => ?_)
    obtain ⟨j, ⟨hj, hmz⟩, hG, hl⟩ := hI
    refine lv_iload_n hx hb dJ41_node_17 rfl (lv_at hl 3 rfl) ?_
    refine lv_iload_n hx hb dJ41_node_18 rfl (lv_at hl 1 rfl) ?_
    refine g_cge (tgt := 33) hx hb dJ41_node_19 (by decide) (by omega) (fun h2 => ?_) (fun h2 => ?_)
    · have hji : j = i := by omega
      subst hji
      refine lv_aload_n hx hb dJ41_node_33 rfl (lv_at hl 2 rfl) ?_
      have hG : gW X F V ((ll, oB 27 [.int (zI mo), .int (zI (N.length : Int)), va_rf (hdO N), va_rf (tlO N)]) :: Z) s H locs := by rw [ehd, etl]; exact hG
      exact g_rret hx hb hr (Or.inl ⟨_, rfl⟩) hlocks hG (⟨rfl, rfl, rfl, rfl⟩) ⟨Nat.le_of_ble_eq_true rfl, Nat.le_of_ble_eq_true rfl⟩ dJ41_node_34
    · have hnd2 := hN.2.2.2 j (by omega)
      have hrb2 := hN.2.1 j (by omega)
      rw [show nxO N j = some (nA N (j + 1)) from if_pos (by omega)] at hnd2
      have hnd2 : V (nR N j) = some (nA N j, oB 28 [.ref (nT N j), .ref (nA N (j + 1)), va_rf (pvO N j)]) := hnd2
      refine lv_aload_n hx hb dJ41_node_22 rfl (lv_at hl 2 rfl) ?_
      refine g_get (ci := 28) hx hb hts in_J28 hown hG (hG.vo hnd2) rfl 1 (Nat.le_of_ble_eq_true rfl) (hts _ q1231) (fun _ h9 => h9) rfl dJ41_node_23 ?_
      refine lv_astore_n (lv' := [(2, .ref (nA N (j + 1))), (0, .ref ll), (1, .int (zI (i : Int))), (3, .int (zI (j : Int)))]) hx hb dJ41_node_26 rfl hl (by decide) rfl (fun ls hl => ?_)
      refine lv_iinc (v := zI ((j : Int) + 1 : Int)) (lv' := [(3, .int (zI ((j : Int) + 1 : Int))), (2, .ref (nA N (j + 1))), (0, .ref ll), (1, .int (zI (i : Int)))]) hx hb dJ41_node_27 hl (k := 3) rfl ((zI_add _ _).trans (congrArg zI (by omega))) (by decide) rfl (fun ls hl => ?_)
      refine lv_goto (tgt := 17) hx hb dJ41_node_30 (by decide) ?_
      have hl : lv_has ls 4 [(3, .int (zI ((j + 1 : Nat) : Int))), (2, .ref (nA N (j + 1))), (0, .ref ll), (1, .int (zI (i : Int)))] := by exact hl
      exact ihA (i - (j + 1)) (by omega) H locs ls ⟨(j + 1), ⟨by omega, rfl⟩, hG, (lv_sub hl [2, 3, 1, 0] rfl)⟩

set_option maxHeartbeats 4000000 in
theorem metJ41_unlink {l : Launch} {X : gX} {F : gF} {V : gV} {Z : va_W} {i ll B : Nat} {mo : Int} {N : List Nd} (hN : llN V B N) (h24 : N.length ≤ 1000) (hi : i < N.length) : Met l yJ41_unlink (ws_ yJ41_unlink cJ41_unlink 5 (some (FieldType.object "java/lang/Object"))) ({ frames := 0, cells := 0, slots := 0, locals := 0 }) (gP X F V ((ll, oB 27 [.int (zI mo), .int (zI (N.length : Int)), va_rf (hdO N), va_rf (tlO N)]) :: Z) [.ref ll, .ref (nA N i)]) (gQr X (fun u G U ws => u = nT N i ∧ F = G ∧ llN U B (N.eraseIdx i) ∧ vx100 V U ∧ ((ll, llE (mo + 1) (N.eraseIdx i)) :: Z) = ws)) 0 0 (gA X) := by
  refine Met.g (by decide) (Nat.le_of_ble_eq_true rfl) ?_
  intro p e s m below meth c ls hx hb hr hts hown hlocks hml hin hG hl
  have hl : lv_has ls 5 [(0, .ref ll), (1, .ref (nA N i))] := hl
  have hB := hN.1
  have h0 : 0 < N.length := by omega
  have ehd : hdO N = some (nA N 0) := if_pos h0
  have etl : tlO N = some (nA N (N.length - 1)) := if_pos h0
  rw [ehd, etl] at hG
  have hG : gW X F V ((ll, oB 27 [.int (zI mo), .int (zI (N.length : Int)), .ref (nA N 0), .ref (nA N (N.length - 1))]) :: Z) s _ _ := hG
  rcases Nat.eq_zero_or_pos i with hi0 | hi0
  · rcases Nat.lt_or_ge (i + 1) N.length with hi1 | hi1
    · have hnd := hN.2.2.2 i (by omega)
      have hrb1 := hN.2.1 i (by omega)
      rw [show nxO N i = some (nA N (i + 1)) from if_pos (by omega)] at hnd
      rw [show pvO N i = none from if_pos (by omega)] at hnd
      have hnd : V (nR N i) = some (nA N i, oB 28 [.ref (nT N i), .ref (nA N (i + 1)), .null]) := hnd
      have hne2 : nR N i ≠ nR N (i + 1) := hN.2.2.1 i (i + 1) hi (by omega) (by omega)
      have hnn := hN.2.2.2 (i + 1) (by omega)
      have hrb2 := hN.2.1 (i + 1) (by omega)
      have hnn : V (nR N (i + 1)) = some (nA N (i + 1), oB 28 [.ref (nT N (i + 1)), va_rf (nxO N (i + 1)), va_rf (pvO N (i + 1))]) := hnn
      refine lv_aload_n hx hb dJ41_unlink_0 rfl (lv_at hl 1 rfl) ?_
      refine g_get (ci := 28) hx hb hts in_J28 hown hG (hG.vo hnd) rfl 0 (Nat.le_of_ble_eq_true rfl) (hts _ q1228) (fun _ h9 => h9) rfl dJ41_unlink_1 ?_
      refine lv_astore_n (lv' := [(2, .ref (nT N i)), (0, .ref ll), (1, .ref (nA N i))]) hx hb dJ41_unlink_4 rfl hl (by decide) rfl (fun ls hl => ?_)
      refine lv_aload_n hx hb dJ41_unlink_5 rfl (lv_at hl 2 rfl) ?_
      refine g_get (ci := 28) hx hb hts in_J28 hown hG (hG.vo hnd) rfl 1 (Nat.le_of_ble_eq_true rfl) (hts _ q1231) (fun _ h9 => h9) rfl dJ41_unlink_6 ?_
      refine lv_astore_n (lv' := [(3, .ref (nA N (i + 1))), (2, .ref (nT N i)), (0, .ref ll), (1, .ref (nA N i))]) hx hb dJ41_unlink_9 rfl hl (by decide) rfl (fun ls hl => ?_)
      refine lv_aload_n hx hb dJ41_unlink_10 rfl (lv_at hl 3 rfl) ?_
      refine g_get (ci := 28) hx hb hts in_J28 hown hG (hG.vo hnd) rfl 2 (Nat.le_of_ble_eq_true rfl) (hts _ q1233) (fun _ h9 => h9) rfl dJ41_unlink_11 ?_
      refine lv_astoreN (lv' := [(4, .null), (3, .ref (nA N (i + 1))), (2, .ref (nT N i)), (0, .ref ll), (1, .ref (nA N i))]) hx hb dJ41_unlink_14 hl (by decide) rfl (fun ls hl => ?_)
      refine lv_aloadN hx hb dJ41_unlink_16 (lv_at hl 0 rfl) ?_
      refine lv_ifnonnullN hx hb dJ41_unlink_18 ?_
      refine lv_aload_n hx hb dJ41_unlink_21 rfl (lv_at hl 3 rfl) ?_
      refine lv_aload_n hx hb dJ41_unlink_22 rfl (lv_at hl 1 rfl) ?_
      refine g_put (ci := 27) hx hb hts in_J41 tyJ41 tyJ41_ok nmJ41 hown hG 0 rfl rfl 2 (Nat.le_of_ble_eq_true rfl) (hts _ q2509) (fun _ h9 => h9) rfl (tyJ41_ok 2 (Nat.le_of_ble_eq_true rfl)) rfl rfl (Nat.le_of_ble_eq_true rfl) dJ41_unlink_23 (fun H locs (hG : gW X F V ((ll, oB 27 [.int (zI mo), .int (zI (N.length : Int)), .ref (nA N (i + 1)), .ref (nA N (N.length - 1))]) :: Z) s H locs) => ?_)
      refine lv_goto (tgt := 40) hx hb dJ41_unlink_26 (by decide) ?_
      refine lv_aload_n hx hb dJ41_unlink_40 rfl (lv_at hl 1 rfl) ?_
      refine lv_ifnonnull (tgt := 53) hx hb dJ41_unlink_41 (by decide) ?_
      refine lv_aload_n hx hb dJ41_unlink_53 rfl (lv_at hl 1 rfl) ?_
      refine lv_aloadN hx hb dJ41_unlink_54 (lv_at hl 0 rfl) ?_
      refine g_putV (ci := 28) hx hb hts in_J28 tyJ28 tyJ28_ok nmJ28 hown hG hnn rfl 2 (Nat.le_of_ble_eq_true rfl) (hts _ q1233) (fun _ h9 => h9) rfl (tyJ28_ok 2 (Nat.le_of_ble_eq_true rfl)) rfl rfl (Nat.le_of_ble_eq_true rfl) dJ41_unlink_56 (fun H locs (hG : gW X F (va_up V (nR N (i + 1)) (some ((nA N (i + 1)), oB 28 [.ref (nT N (i + 1)), va_rf (nxO N (i + 1)), .null]))) ((ll, oB 27 [.int (zI mo), .int (zI (N.length : Int)), .ref (nA N (i + 1)), .ref (nA N (N.length - 1))]) :: Z) s H locs) => ?_)
      have hnd : (va_up V (nR N (i + 1)) (some ((nA N (i + 1)), oB 28 [.ref (nT N (i + 1)), va_rf (nxO N (i + 1)), .null]))) (nR N i) = some ((nA N i), oB 28 [.ref (nT N i), .ref (nA N (i + 1)), .null]) := (vun (by omega)).trans hnd
      have hnn : (va_up V (nR N (i + 1)) (some ((nA N (i + 1)), oB 28 [.ref (nT N (i + 1)), va_rf (nxO N (i + 1)), .null]))) (nR N (i + 1)) = some ((nA N (i + 1)), oB 28 [.ref (nT N (i + 1)), va_rf (nxO N (i + 1)), .null]) := vus
      refine lv_aload_n hx hb dJ41_unlink_59 rfl (lv_at hl 4 rfl) ?_
      refine lv_null hx hb dJ41_unlink_60 ?_
      refine g_putV (ci := 28) hx hb hts in_J28 tyJ28 tyJ28_ok nmJ28 hown hG hnd rfl 1 (Nat.le_of_ble_eq_true rfl) (hts _ q1231) (fun _ h9 => h9) rfl (tyJ28_ok 1 (Nat.le_of_ble_eq_true rfl)) rfl rfl (Nat.le_of_ble_eq_true rfl) dJ41_unlink_61 (fun H locs (hG : gW X F (va_up (va_up V (nR N (i + 1)) (some ((nA N (i + 1)), oB 28 [.ref (nT N (i + 1)), va_rf (nxO N (i + 1)), .null]))) (nR N i) (some ((nA N i), oB 28 [.ref (nT N i), .null, .null]))) ((ll, oB 27 [.int (zI mo), .int (zI (N.length : Int)), .ref (nA N (i + 1)), .ref (nA N (N.length - 1))]) :: Z) s H locs) => ?_)
      have hnd : (va_up (va_up V (nR N (i + 1)) (some ((nA N (i + 1)), oB 28 [.ref (nT N (i + 1)), va_rf (nxO N (i + 1)), .null]))) (nR N i) (some ((nA N i), oB 28 [.ref (nT N i), .null, .null]))) (nR N i) = some ((nA N i), oB 28 [.ref (nT N i), .null, .null]) := vus
      have hnn : (va_up (va_up V (nR N (i + 1)) (some ((nA N (i + 1)), oB 28 [.ref (nT N (i + 1)), va_rf (nxO N (i + 1)), .null]))) (nR N i) (some ((nA N i), oB 28 [.ref (nT N i), .null, .null]))) (nR N (i + 1)) = some ((nA N (i + 1)), oB 28 [.ref (nT N (i + 1)), va_rf (nxO N (i + 1)), .null]) := (vun (by omega)).trans hnn
      refine lv_aload_n hx hb dJ41_unlink_64 rfl (lv_at hl 4 rfl) ?_
      refine lv_null hx hb dJ41_unlink_65 ?_
      refine g_putV (ci := 28) hx hb hts in_J28 tyJ28 tyJ28_ok nmJ28 hown hG hnd rfl 0 (Nat.le_of_ble_eq_true rfl) (hts _ q1228) (fun _ h9 => h9) rfl (tyJ28_ok 0 (Nat.le_of_ble_eq_true rfl)) rfl rfl (Nat.le_of_ble_eq_true rfl) dJ41_unlink_66 (fun H locs (hG : gW X F (va_up (va_up (va_up V (nR N (i + 1)) (some ((nA N (i + 1)), oB 28 [.ref (nT N (i + 1)), va_rf (nxO N (i + 1)), .null]))) (nR N i) (some ((nA N i), oB 28 [.ref (nT N i), .null, .null]))) (nR N i) (some ((nA N i), oB 28 [.null, .null, .null]))) ((ll, oB 27 [.int (zI mo), .int (zI (N.length : Int)), .ref (nA N (i + 1)), .ref (nA N (N.length - 1))]) :: Z) s H locs) => ?_)
      have hnd : (va_up (va_up (va_up V (nR N (i + 1)) (some ((nA N (i + 1)), oB 28 [.ref (nT N (i + 1)), va_rf (nxO N (i + 1)), .null]))) (nR N i) (some ((nA N i), oB 28 [.ref (nT N i), .null, .null]))) (nR N i) (some ((nA N i), oB 28 [.null, .null, .null]))) (nR N i) = some ((nA N i), oB 28 [.null, .null, .null]) := vus
      have hnn : (va_up (va_up (va_up V (nR N (i + 1)) (some ((nA N (i + 1)), oB 28 [.ref (nT N (i + 1)), va_rf (nxO N (i + 1)), .null]))) (nR N i) (some ((nA N i), oB 28 [.ref (nT N i), .null, .null]))) (nR N i) (some ((nA N i), oB 28 [.null, .null, .null]))) (nR N (i + 1)) = some ((nA N (i + 1)), oB 28 [.ref (nT N (i + 1)), va_rf (nxO N (i + 1)), .null]) := (vun (by omega)).trans hnn
      refine lv_aload_n hx hb dJ41_unlink_69 rfl (lv_at hl 3 rfl) ?_
      refine lv_dup hx hb dJ41_unlink_70 rfl ?_
      refine g_get (ci := 27) hx hb hts in_J41 hown hG (hG.at 0 rfl) rfl 1 (Nat.le_of_ble_eq_true rfl) (hts _ q2507) (fun _ h9 => h9) rfl dJ41_unlink_71 ?_
      refine lv_iconst (v := zI 1) hx hb dJ41_unlink_74 (by decide +kernel) ?_
      refine g_isub hx hb dJ41_unlink_75 ?_
      refine g_put (ci := 27) hx hb hts in_J41 tyJ41 tyJ41_ok nmJ41 hown hG 0 rfl rfl 1 (Nat.le_of_ble_eq_true rfl) (hts _ q2507) (fun _ h9 => h9) rfl (tyJ41_ok 1 (Nat.le_of_ble_eq_true rfl)) rfl rfl (Nat.le_of_ble_eq_true rfl) dJ41_unlink_76 (fun H locs (hG : gW X F (va_up (va_up (va_up V (nR N (i + 1)) (some ((nA N (i + 1)), oB 28 [.ref (nT N (i + 1)), va_rf (nxO N (i + 1)), .null]))) (nR N i) (some ((nA N i), oB 28 [.ref (nT N i), .null, .null]))) (nR N i) (some ((nA N i), oB 28 [.null, .null, .null]))) ((ll, oB 27 [.int (zI mo), .int (zI ((N.length : Int) - 1)), .ref (nA N (i + 1)), .ref (nA N (N.length - 1))]) :: Z) s H locs) => ?_)
      refine lv_aload_n hx hb dJ41_unlink_79 rfl (lv_at hl 3 rfl) ?_
      refine lv_dup hx hb dJ41_unlink_80 rfl ?_
      refine g_get (ci := 27) hx hb hts in_J41 hown hG (hG.at 0 rfl) rfl 0 (Nat.le_of_ble_eq_true rfl) (hts _ q772) (u_same (hts _ q768)) rfl dJ41_unlink_81 ?_
      refine lv_iconst (v := zI 1) hx hb dJ41_unlink_84 (by decide +kernel) ?_
      refine g_iadd hx hb dJ41_unlink_85 ?_
      refine g_put (ci := 27) hx hb hts in_J41 tyJ41 tyJ41_ok nmJ41 hown hG 0 rfl rfl 0 (Nat.le_of_ble_eq_true rfl) (hts _ q772) (u_same (hts _ q768)) rfl (tyJ41_ok 0 (Nat.le_of_ble_eq_true rfl)) rfl rfl (Nat.le_of_ble_eq_true rfl) dJ41_unlink_86 (fun H locs (hG : gW X F (va_up (va_up (va_up V (nR N (i + 1)) (some ((nA N (i + 1)), oB 28 [.ref (nT N (i + 1)), va_rf (nxO N (i + 1)), .null]))) (nR N i) (some ((nA N i), oB 28 [.ref (nT N i), .null, .null]))) (nR N i) (some ((nA N i), oB 28 [.null, .null, .null]))) ((ll, oB 27 [.int (zI (mo + 1)), .int (zI ((N.length : Int) - 1)), .ref (nA N (i + 1)), .ref (nA N (N.length - 1))]) :: Z) s H locs) => ?_)
      refine lv_aload_n hx hb dJ41_unlink_89 rfl (lv_at hl 2 rfl) ?_
      exact g_rret hx hb hr (Or.inl ⟨_, rfl⟩) hlocks hG (⟨rfl, rfl, hN.rem (i := i) hi (fun q => by omega) (fun _ => by rw [show pvO N i = none from if_pos (by omega)]; exact hnn) (fun r h1 h2 h3 => ((va_up_ne _ _ h1).trans ((va_up_ne _ _ h1).trans ((va_up_ne _ _ (h3 (by omega))).trans rfl)))), (((vx100.rf.up (by omega)).up (by omega)).up (by omega)), by rw [llE_rem hi, if_pos (by omega), show nxO N 0 = some (nA N (i + 1)) from (if_pos (by omega)).trans (by rw [show i = 0 by omega]), if_neg (by omega)]; rfl⟩) ⟨Nat.le_of_ble_eq_true rfl, Nat.le_of_ble_eq_true rfl⟩ dJ41_unlink_90
    · have hnd := hN.2.2.2 i (by omega)
      have hrb3 := hN.2.1 i (by omega)
      rw [show nxO N i = none from if_neg (by omega)] at hnd
      rw [show pvO N i = none from if_pos (by omega)] at hnd
      have hnd : V (nR N i) = some (nA N i, oB 28 [.ref (nT N i), .null, .null]) := hnd
      refine lv_aload_n hx hb dJ41_unlink_0 rfl (lv_at hl 1 rfl) ?_
      refine g_get (ci := 28) hx hb hts in_J28 hown hG (hG.vo hnd) rfl 0 (Nat.le_of_ble_eq_true rfl) (hts _ q1228) (fun _ h9 => h9) rfl dJ41_unlink_1 ?_
      refine lv_astore_n (lv' := [(2, .ref (nT N i)), (0, .ref ll), (1, .ref (nA N i))]) hx hb dJ41_unlink_4 rfl hl (by decide) rfl (fun ls hl => ?_)
      refine lv_aload_n hx hb dJ41_unlink_5 rfl (lv_at hl 2 rfl) ?_
      refine g_get (ci := 28) hx hb hts in_J28 hown hG (hG.vo hnd) rfl 1 (Nat.le_of_ble_eq_true rfl) (hts _ q1231) (fun _ h9 => h9) rfl dJ41_unlink_6 ?_
      refine lv_astore_nN (lv' := [(3, .null), (2, .ref (nT N i)), (0, .ref ll), (1, .ref (nA N i))]) hx hb dJ41_unlink_9 rfl hl (by decide) rfl (fun ls hl => ?_)
      refine lv_aload_n hx hb dJ41_unlink_10 rfl (lv_at hl 3 rfl) ?_
      refine g_get (ci := 28) hx hb hts in_J28 hown hG (hG.vo hnd) rfl 2 (Nat.le_of_ble_eq_true rfl) (hts _ q1233) (fun _ h9 => h9) rfl dJ41_unlink_11 ?_
      refine lv_astoreN (lv' := [(4, .null), (3, .null), (2, .ref (nT N i)), (0, .ref ll), (1, .ref (nA N i))]) hx hb dJ41_unlink_14 hl (by decide) rfl (fun ls hl => ?_)
      refine lv_aloadN hx hb dJ41_unlink_16 (lv_at hl 0 rfl) ?_
      refine lv_ifnonnullN hx hb dJ41_unlink_18 ?_
      refine lv_aload_n hx hb dJ41_unlink_21 rfl (lv_at hl 3 rfl) ?_
      refine lv_aload_nN hx hb dJ41_unlink_22 rfl (lv_at hl 1 rfl) ?_
      refine g_put (ci := 27) hx hb hts in_J41 tyJ41 tyJ41_ok nmJ41 hown hG 0 rfl rfl 2 (Nat.le_of_ble_eq_true rfl) (hts _ q2509) (fun _ h9 => h9) rfl (tyJ41_ok 2 (Nat.le_of_ble_eq_true rfl)) rfl rfl (Nat.le_of_ble_eq_true rfl) dJ41_unlink_23 (fun H locs (hG : gW X F V ((ll, oB 27 [.int (zI mo), .int (zI (N.length : Int)), .null, .ref (nA N (N.length - 1))]) :: Z) s H locs) => ?_)
      refine lv_goto (tgt := 40) hx hb dJ41_unlink_26 (by decide) ?_
      refine lv_aload_nN hx hb dJ41_unlink_40 rfl (lv_at hl 1 rfl) ?_
      refine lv_ifnonnullN hx hb dJ41_unlink_41 ?_
      refine lv_aload_n hx hb dJ41_unlink_44 rfl (lv_at hl 3 rfl) ?_
      refine lv_aloadN hx hb dJ41_unlink_45 (lv_at hl 0 rfl) ?_
      refine g_put (ci := 27) hx hb hts in_J41 tyJ41 tyJ41_ok nmJ41 hown hG 0 rfl rfl 3 (Nat.le_of_ble_eq_true rfl) (hts _ q2510) (fun _ h9 => h9) rfl (tyJ41_ok 3 (Nat.le_of_ble_eq_true rfl)) rfl rfl (Nat.le_of_ble_eq_true rfl) dJ41_unlink_47 (fun H locs (hG : gW X F V ((ll, oB 27 [.int (zI mo), .int (zI (N.length : Int)), .null, .null]) :: Z) s H locs) => ?_)
      refine lv_goto (tgt := 64) hx hb dJ41_unlink_50 (by decide) ?_
      refine lv_aload_n hx hb dJ41_unlink_64 rfl (lv_at hl 4 rfl) ?_
      refine lv_null hx hb dJ41_unlink_65 ?_
      refine g_putV (ci := 28) hx hb hts in_J28 tyJ28 tyJ28_ok nmJ28 hown hG hnd rfl 0 (Nat.le_of_ble_eq_true rfl) (hts _ q1228) (fun _ h9 => h9) rfl (tyJ28_ok 0 (Nat.le_of_ble_eq_true rfl)) rfl rfl (Nat.le_of_ble_eq_true rfl) dJ41_unlink_66 (fun H locs (hG : gW X F (va_up V (nR N i) (some ((nA N i), oB 28 [.null, .null, .null]))) ((ll, oB 27 [.int (zI mo), .int (zI (N.length : Int)), .null, .null]) :: Z) s H locs) => ?_)
      have hnd : (va_up V (nR N i) (some ((nA N i), oB 28 [.null, .null, .null]))) (nR N i) = some ((nA N i), oB 28 [.null, .null, .null]) := vus
      refine lv_aload_n hx hb dJ41_unlink_69 rfl (lv_at hl 3 rfl) ?_
      refine lv_dup hx hb dJ41_unlink_70 rfl ?_
      refine g_get (ci := 27) hx hb hts in_J41 hown hG (hG.at 0 rfl) rfl 1 (Nat.le_of_ble_eq_true rfl) (hts _ q2507) (fun _ h9 => h9) rfl dJ41_unlink_71 ?_
      refine lv_iconst (v := zI 1) hx hb dJ41_unlink_74 (by decide +kernel) ?_
      refine g_isub hx hb dJ41_unlink_75 ?_
      refine g_put (ci := 27) hx hb hts in_J41 tyJ41 tyJ41_ok nmJ41 hown hG 0 rfl rfl 1 (Nat.le_of_ble_eq_true rfl) (hts _ q2507) (fun _ h9 => h9) rfl (tyJ41_ok 1 (Nat.le_of_ble_eq_true rfl)) rfl rfl (Nat.le_of_ble_eq_true rfl) dJ41_unlink_76 (fun H locs (hG : gW X F (va_up V (nR N i) (some ((nA N i), oB 28 [.null, .null, .null]))) ((ll, oB 27 [.int (zI mo), .int (zI ((N.length : Int) - 1)), .null, .null]) :: Z) s H locs) => ?_)
      refine lv_aload_n hx hb dJ41_unlink_79 rfl (lv_at hl 3 rfl) ?_
      refine lv_dup hx hb dJ41_unlink_80 rfl ?_
      refine g_get (ci := 27) hx hb hts in_J41 hown hG (hG.at 0 rfl) rfl 0 (Nat.le_of_ble_eq_true rfl) (hts _ q772) (u_same (hts _ q768)) rfl dJ41_unlink_81 ?_
      refine lv_iconst (v := zI 1) hx hb dJ41_unlink_84 (by decide +kernel) ?_
      refine g_iadd hx hb dJ41_unlink_85 ?_
      refine g_put (ci := 27) hx hb hts in_J41 tyJ41 tyJ41_ok nmJ41 hown hG 0 rfl rfl 0 (Nat.le_of_ble_eq_true rfl) (hts _ q772) (u_same (hts _ q768)) rfl (tyJ41_ok 0 (Nat.le_of_ble_eq_true rfl)) rfl rfl (Nat.le_of_ble_eq_true rfl) dJ41_unlink_86 (fun H locs (hG : gW X F (va_up V (nR N i) (some ((nA N i), oB 28 [.null, .null, .null]))) ((ll, oB 27 [.int (zI (mo + 1)), .int (zI ((N.length : Int) - 1)), .null, .null]) :: Z) s H locs) => ?_)
      refine lv_aload_n hx hb dJ41_unlink_89 rfl (lv_at hl 2 rfl) ?_
      exact g_rret hx hb hr (Or.inl ⟨_, rfl⟩) hlocks hG (⟨rfl, rfl, hN.rem (i := i) hi (fun q => by omega) (fun _ => by omega) (fun r h1 h2 h3 => ((va_up_ne _ _ h1).trans rfl)), (vx100.rf.up (by omega)), by rw [llE_rem hi, if_pos (by omega), show nxO N 0 = none from if_neg (by omega), if_pos (by omega), show pvO N i = none from if_pos (by omega)]; rfl⟩) ⟨Nat.le_of_ble_eq_true rfl, Nat.le_of_ble_eq_true rfl⟩ dJ41_unlink_90
  · rcases Nat.lt_or_ge (i + 1) N.length with hi1 | hi1
    · have hnd := hN.2.2.2 i (by omega)
      have hrb4 := hN.2.1 i (by omega)
      rw [show nxO N i = some (nA N (i + 1)) from if_pos (by omega)] at hnd
      rw [show pvO N i = some (nA N (i - 1)) from if_neg (by omega)] at hnd
      have hnd : V (nR N i) = some (nA N i, oB 28 [.ref (nT N i), .ref (nA N (i + 1)), .ref (nA N (i - 1))]) := hnd
      have hne1 : nR N i ≠ nR N (i - 1) := hN.2.2.1 i (i - 1) hi (by omega) (by omega)
      have hnp := hN.2.2.2 (i - 1) (by omega)
      have hrb5 := hN.2.1 (i - 1) (by omega)
      have hnp : V (nR N (i - 1)) = some (nA N (i - 1), oB 28 [.ref (nT N (i - 1)), va_rf (nxO N (i - 1)), va_rf (pvO N (i - 1))]) := hnp
      have hne2 : nR N i ≠ nR N (i + 1) := hN.2.2.1 i (i + 1) hi (by omega) (by omega)
      have hnn := hN.2.2.2 (i + 1) (by omega)
      have hrb6 := hN.2.1 (i + 1) (by omega)
      have hnn : V (nR N (i + 1)) = some (nA N (i + 1), oB 28 [.ref (nT N (i + 1)), va_rf (nxO N (i + 1)), va_rf (pvO N (i + 1))]) := hnn
      have hne3 : nR N (i - 1) ≠ nR N (i + 1) := hN.2.2.1 (i - 1) (i + 1) (by omega) (by omega) (by omega)
      refine lv_aload_n hx hb dJ41_unlink_0 rfl (lv_at hl 1 rfl) ?_
      refine g_get (ci := 28) hx hb hts in_J28 hown hG (hG.vo hnd) rfl 0 (Nat.le_of_ble_eq_true rfl) (hts _ q1228) (fun _ h9 => h9) rfl dJ41_unlink_1 ?_
      refine lv_astore_n (lv' := [(2, .ref (nT N i)), (0, .ref ll), (1, .ref (nA N i))]) hx hb dJ41_unlink_4 rfl hl (by decide) rfl (fun ls hl => ?_)
      refine lv_aload_n hx hb dJ41_unlink_5 rfl (lv_at hl 2 rfl) ?_
      refine g_get (ci := 28) hx hb hts in_J28 hown hG (hG.vo hnd) rfl 1 (Nat.le_of_ble_eq_true rfl) (hts _ q1231) (fun _ h9 => h9) rfl dJ41_unlink_6 ?_
      refine lv_astore_n (lv' := [(3, .ref (nA N (i + 1))), (2, .ref (nT N i)), (0, .ref ll), (1, .ref (nA N i))]) hx hb dJ41_unlink_9 rfl hl (by decide) rfl (fun ls hl => ?_)
      refine lv_aload_n hx hb dJ41_unlink_10 rfl (lv_at hl 3 rfl) ?_
      refine g_get (ci := 28) hx hb hts in_J28 hown hG (hG.vo hnd) rfl 2 (Nat.le_of_ble_eq_true rfl) (hts _ q1233) (fun _ h9 => h9) rfl dJ41_unlink_11 ?_
      refine lv_astore (lv' := [(4, .ref (nA N (i - 1))), (3, .ref (nA N (i + 1))), (2, .ref (nT N i)), (0, .ref ll), (1, .ref (nA N i))]) hx hb dJ41_unlink_14 hl (by decide) rfl (fun ls hl => ?_)
      refine lv_aload hx hb dJ41_unlink_16 (lv_at hl 0 rfl) ?_
      refine lv_ifnonnull (tgt := 29) hx hb dJ41_unlink_18 (by decide) ?_
      refine lv_aload hx hb dJ41_unlink_29 (lv_at hl 0 rfl) ?_
      refine lv_aload_n hx hb dJ41_unlink_31 rfl (lv_at hl 1 rfl) ?_
      refine g_putV (ci := 28) hx hb hts in_J28 tyJ28 tyJ28_ok nmJ28 hown hG hnp rfl 1 (Nat.le_of_ble_eq_true rfl) (hts _ q1231) (fun _ h9 => h9) rfl (tyJ28_ok 1 (Nat.le_of_ble_eq_true rfl)) rfl rfl (Nat.le_of_ble_eq_true rfl) dJ41_unlink_32 (fun H locs (hG : gW X F (va_up V (nR N (i - 1)) (some ((nA N (i - 1)), oB 28 [.ref (nT N (i - 1)), .ref (nA N (i + 1)), va_rf (pvO N (i - 1))]))) ((ll, oB 27 [.int (zI mo), .int (zI (N.length : Int)), .ref (nA N 0), .ref (nA N (N.length - 1))]) :: Z) s H locs) => ?_)
      have hnd : (va_up V (nR N (i - 1)) (some ((nA N (i - 1)), oB 28 [.ref (nT N (i - 1)), .ref (nA N (i + 1)), va_rf (pvO N (i - 1))]))) (nR N i) = some ((nA N i), oB 28 [.ref (nT N i), .ref (nA N (i + 1)), .ref (nA N (i - 1))]) := (vun (by omega)).trans hnd
      have hnp : (va_up V (nR N (i - 1)) (some ((nA N (i - 1)), oB 28 [.ref (nT N (i - 1)), .ref (nA N (i + 1)), va_rf (pvO N (i - 1))]))) (nR N (i - 1)) = some ((nA N (i - 1)), oB 28 [.ref (nT N (i - 1)), .ref (nA N (i + 1)), va_rf (pvO N (i - 1))]) := vus
      have hnn : (va_up V (nR N (i - 1)) (some ((nA N (i - 1)), oB 28 [.ref (nT N (i - 1)), .ref (nA N (i + 1)), va_rf (pvO N (i - 1))]))) (nR N (i + 1)) = some ((nA N (i + 1)), oB 28 [.ref (nT N (i + 1)), va_rf (nxO N (i + 1)), va_rf (pvO N (i + 1))]) := (vun (by omega)).trans hnn
      refine lv_aload_n hx hb dJ41_unlink_35 rfl (lv_at hl 4 rfl) ?_
      refine lv_null hx hb dJ41_unlink_36 ?_
      refine g_putV (ci := 28) hx hb hts in_J28 tyJ28 tyJ28_ok nmJ28 hown hG hnd rfl 2 (Nat.le_of_ble_eq_true rfl) (hts _ q1233) (fun _ h9 => h9) rfl (tyJ28_ok 2 (Nat.le_of_ble_eq_true rfl)) rfl rfl (Nat.le_of_ble_eq_true rfl) dJ41_unlink_37 (fun H locs (hG : gW X F (va_up (va_up V (nR N (i - 1)) (some ((nA N (i - 1)), oB 28 [.ref (nT N (i - 1)), .ref (nA N (i + 1)), va_rf (pvO N (i - 1))]))) (nR N i) (some ((nA N i), oB 28 [.ref (nT N i), .ref (nA N (i + 1)), .null]))) ((ll, oB 27 [.int (zI mo), .int (zI (N.length : Int)), .ref (nA N 0), .ref (nA N (N.length - 1))]) :: Z) s H locs) => ?_)
      have hnd : (va_up (va_up V (nR N (i - 1)) (some ((nA N (i - 1)), oB 28 [.ref (nT N (i - 1)), .ref (nA N (i + 1)), va_rf (pvO N (i - 1))]))) (nR N i) (some ((nA N i), oB 28 [.ref (nT N i), .ref (nA N (i + 1)), .null]))) (nR N i) = some ((nA N i), oB 28 [.ref (nT N i), .ref (nA N (i + 1)), .null]) := vus
      have hnp : (va_up (va_up V (nR N (i - 1)) (some ((nA N (i - 1)), oB 28 [.ref (nT N (i - 1)), .ref (nA N (i + 1)), va_rf (pvO N (i - 1))]))) (nR N i) (some ((nA N i), oB 28 [.ref (nT N i), .ref (nA N (i + 1)), .null]))) (nR N (i - 1)) = some ((nA N (i - 1)), oB 28 [.ref (nT N (i - 1)), .ref (nA N (i + 1)), va_rf (pvO N (i - 1))]) := (vun (by omega)).trans hnp
      have hnn : (va_up (va_up V (nR N (i - 1)) (some ((nA N (i - 1)), oB 28 [.ref (nT N (i - 1)), .ref (nA N (i + 1)), va_rf (pvO N (i - 1))]))) (nR N i) (some ((nA N i), oB 28 [.ref (nT N i), .ref (nA N (i + 1)), .null]))) (nR N (i + 1)) = some ((nA N (i + 1)), oB 28 [.ref (nT N (i + 1)), va_rf (nxO N (i + 1)), va_rf (pvO N (i + 1))]) := (vun (by omega)).trans hnn
      refine lv_aload_n hx hb dJ41_unlink_40 rfl (lv_at hl 1 rfl) ?_
      refine lv_ifnonnull (tgt := 53) hx hb dJ41_unlink_41 (by decide) ?_
      refine lv_aload_n hx hb dJ41_unlink_53 rfl (lv_at hl 1 rfl) ?_
      refine lv_aload hx hb dJ41_unlink_54 (lv_at hl 0 rfl) ?_
      refine g_putV (ci := 28) hx hb hts in_J28 tyJ28 tyJ28_ok nmJ28 hown hG hnn rfl 2 (Nat.le_of_ble_eq_true rfl) (hts _ q1233) (fun _ h9 => h9) rfl (tyJ28_ok 2 (Nat.le_of_ble_eq_true rfl)) rfl rfl (Nat.le_of_ble_eq_true rfl) dJ41_unlink_56 (fun H locs (hG : gW X F (va_up (va_up (va_up V (nR N (i - 1)) (some ((nA N (i - 1)), oB 28 [.ref (nT N (i - 1)), .ref (nA N (i + 1)), va_rf (pvO N (i - 1))]))) (nR N i) (some ((nA N i), oB 28 [.ref (nT N i), .ref (nA N (i + 1)), .null]))) (nR N (i + 1)) (some ((nA N (i + 1)), oB 28 [.ref (nT N (i + 1)), va_rf (nxO N (i + 1)), .ref (nA N (i - 1))]))) ((ll, oB 27 [.int (zI mo), .int (zI (N.length : Int)), .ref (nA N 0), .ref (nA N (N.length - 1))]) :: Z) s H locs) => ?_)
      have hnd : (va_up (va_up (va_up V (nR N (i - 1)) (some ((nA N (i - 1)), oB 28 [.ref (nT N (i - 1)), .ref (nA N (i + 1)), va_rf (pvO N (i - 1))]))) (nR N i) (some ((nA N i), oB 28 [.ref (nT N i), .ref (nA N (i + 1)), .null]))) (nR N (i + 1)) (some ((nA N (i + 1)), oB 28 [.ref (nT N (i + 1)), va_rf (nxO N (i + 1)), .ref (nA N (i - 1))]))) (nR N i) = some ((nA N i), oB 28 [.ref (nT N i), .ref (nA N (i + 1)), .null]) := (vun (by omega)).trans hnd
      have hnp : (va_up (va_up (va_up V (nR N (i - 1)) (some ((nA N (i - 1)), oB 28 [.ref (nT N (i - 1)), .ref (nA N (i + 1)), va_rf (pvO N (i - 1))]))) (nR N i) (some ((nA N i), oB 28 [.ref (nT N i), .ref (nA N (i + 1)), .null]))) (nR N (i + 1)) (some ((nA N (i + 1)), oB 28 [.ref (nT N (i + 1)), va_rf (nxO N (i + 1)), .ref (nA N (i - 1))]))) (nR N (i - 1)) = some ((nA N (i - 1)), oB 28 [.ref (nT N (i - 1)), .ref (nA N (i + 1)), va_rf (pvO N (i - 1))]) := (vun (by omega)).trans hnp
      have hnn : (va_up (va_up (va_up V (nR N (i - 1)) (some ((nA N (i - 1)), oB 28 [.ref (nT N (i - 1)), .ref (nA N (i + 1)), va_rf (pvO N (i - 1))]))) (nR N i) (some ((nA N i), oB 28 [.ref (nT N i), .ref (nA N (i + 1)), .null]))) (nR N (i + 1)) (some ((nA N (i + 1)), oB 28 [.ref (nT N (i + 1)), va_rf (nxO N (i + 1)), .ref (nA N (i - 1))]))) (nR N (i + 1)) = some ((nA N (i + 1)), oB 28 [.ref (nT N (i + 1)), va_rf (nxO N (i + 1)), .ref (nA N (i - 1))]) := vus
      refine lv_aload_n hx hb dJ41_unlink_59 rfl (lv_at hl 4 rfl) ?_
      refine lv_null hx hb dJ41_unlink_60 ?_
      refine g_putV (ci := 28) hx hb hts in_J28 tyJ28 tyJ28_ok nmJ28 hown hG hnd rfl 1 (Nat.le_of_ble_eq_true rfl) (hts _ q1231) (fun _ h9 => h9) rfl (tyJ28_ok 1 (Nat.le_of_ble_eq_true rfl)) rfl rfl (Nat.le_of_ble_eq_true rfl) dJ41_unlink_61 (fun H locs (hG : gW X F (va_up (va_up (va_up (va_up V (nR N (i - 1)) (some ((nA N (i - 1)), oB 28 [.ref (nT N (i - 1)), .ref (nA N (i + 1)), va_rf (pvO N (i - 1))]))) (nR N i) (some ((nA N i), oB 28 [.ref (nT N i), .ref (nA N (i + 1)), .null]))) (nR N (i + 1)) (some ((nA N (i + 1)), oB 28 [.ref (nT N (i + 1)), va_rf (nxO N (i + 1)), .ref (nA N (i - 1))]))) (nR N i) (some ((nA N i), oB 28 [.ref (nT N i), .null, .null]))) ((ll, oB 27 [.int (zI mo), .int (zI (N.length : Int)), .ref (nA N 0), .ref (nA N (N.length - 1))]) :: Z) s H locs) => ?_)
      have hnd : (va_up (va_up (va_up (va_up V (nR N (i - 1)) (some ((nA N (i - 1)), oB 28 [.ref (nT N (i - 1)), .ref (nA N (i + 1)), va_rf (pvO N (i - 1))]))) (nR N i) (some ((nA N i), oB 28 [.ref (nT N i), .ref (nA N (i + 1)), .null]))) (nR N (i + 1)) (some ((nA N (i + 1)), oB 28 [.ref (nT N (i + 1)), va_rf (nxO N (i + 1)), .ref (nA N (i - 1))]))) (nR N i) (some ((nA N i), oB 28 [.ref (nT N i), .null, .null]))) (nR N i) = some ((nA N i), oB 28 [.ref (nT N i), .null, .null]) := vus
      have hnp : (va_up (va_up (va_up (va_up V (nR N (i - 1)) (some ((nA N (i - 1)), oB 28 [.ref (nT N (i - 1)), .ref (nA N (i + 1)), va_rf (pvO N (i - 1))]))) (nR N i) (some ((nA N i), oB 28 [.ref (nT N i), .ref (nA N (i + 1)), .null]))) (nR N (i + 1)) (some ((nA N (i + 1)), oB 28 [.ref (nT N (i + 1)), va_rf (nxO N (i + 1)), .ref (nA N (i - 1))]))) (nR N i) (some ((nA N i), oB 28 [.ref (nT N i), .null, .null]))) (nR N (i - 1)) = some ((nA N (i - 1)), oB 28 [.ref (nT N (i - 1)), .ref (nA N (i + 1)), va_rf (pvO N (i - 1))]) := (vun (by omega)).trans hnp
      have hnn : (va_up (va_up (va_up (va_up V (nR N (i - 1)) (some ((nA N (i - 1)), oB 28 [.ref (nT N (i - 1)), .ref (nA N (i + 1)), va_rf (pvO N (i - 1))]))) (nR N i) (some ((nA N i), oB 28 [.ref (nT N i), .ref (nA N (i + 1)), .null]))) (nR N (i + 1)) (some ((nA N (i + 1)), oB 28 [.ref (nT N (i + 1)), va_rf (nxO N (i + 1)), .ref (nA N (i - 1))]))) (nR N i) (some ((nA N i), oB 28 [.ref (nT N i), .null, .null]))) (nR N (i + 1)) = some ((nA N (i + 1)), oB 28 [.ref (nT N (i + 1)), va_rf (nxO N (i + 1)), .ref (nA N (i - 1))]) := (vun (by omega)).trans hnn
      refine lv_aload_n hx hb dJ41_unlink_64 rfl (lv_at hl 4 rfl) ?_
      refine lv_null hx hb dJ41_unlink_65 ?_
      refine g_putV (ci := 28) hx hb hts in_J28 tyJ28 tyJ28_ok nmJ28 hown hG hnd rfl 0 (Nat.le_of_ble_eq_true rfl) (hts _ q1228) (fun _ h9 => h9) rfl (tyJ28_ok 0 (Nat.le_of_ble_eq_true rfl)) rfl rfl (Nat.le_of_ble_eq_true rfl) dJ41_unlink_66 (fun H locs (hG : gW X F (va_up (va_up (va_up (va_up (va_up V (nR N (i - 1)) (some ((nA N (i - 1)), oB 28 [.ref (nT N (i - 1)), .ref (nA N (i + 1)), va_rf (pvO N (i - 1))]))) (nR N i) (some ((nA N i), oB 28 [.ref (nT N i), .ref (nA N (i + 1)), .null]))) (nR N (i + 1)) (some ((nA N (i + 1)), oB 28 [.ref (nT N (i + 1)), va_rf (nxO N (i + 1)), .ref (nA N (i - 1))]))) (nR N i) (some ((nA N i), oB 28 [.ref (nT N i), .null, .null]))) (nR N i) (some ((nA N i), oB 28 [.null, .null, .null]))) ((ll, oB 27 [.int (zI mo), .int (zI (N.length : Int)), .ref (nA N 0), .ref (nA N (N.length - 1))]) :: Z) s H locs) => ?_)
      have hnd : (va_up (va_up (va_up (va_up (va_up V (nR N (i - 1)) (some ((nA N (i - 1)), oB 28 [.ref (nT N (i - 1)), .ref (nA N (i + 1)), va_rf (pvO N (i - 1))]))) (nR N i) (some ((nA N i), oB 28 [.ref (nT N i), .ref (nA N (i + 1)), .null]))) (nR N (i + 1)) (some ((nA N (i + 1)), oB 28 [.ref (nT N (i + 1)), va_rf (nxO N (i + 1)), .ref (nA N (i - 1))]))) (nR N i) (some ((nA N i), oB 28 [.ref (nT N i), .null, .null]))) (nR N i) (some ((nA N i), oB 28 [.null, .null, .null]))) (nR N i) = some ((nA N i), oB 28 [.null, .null, .null]) := vus
      have hnp : (va_up (va_up (va_up (va_up (va_up V (nR N (i - 1)) (some ((nA N (i - 1)), oB 28 [.ref (nT N (i - 1)), .ref (nA N (i + 1)), va_rf (pvO N (i - 1))]))) (nR N i) (some ((nA N i), oB 28 [.ref (nT N i), .ref (nA N (i + 1)), .null]))) (nR N (i + 1)) (some ((nA N (i + 1)), oB 28 [.ref (nT N (i + 1)), va_rf (nxO N (i + 1)), .ref (nA N (i - 1))]))) (nR N i) (some ((nA N i), oB 28 [.ref (nT N i), .null, .null]))) (nR N i) (some ((nA N i), oB 28 [.null, .null, .null]))) (nR N (i - 1)) = some ((nA N (i - 1)), oB 28 [.ref (nT N (i - 1)), .ref (nA N (i + 1)), va_rf (pvO N (i - 1))]) := (vun (by omega)).trans hnp
      have hnn : (va_up (va_up (va_up (va_up (va_up V (nR N (i - 1)) (some ((nA N (i - 1)), oB 28 [.ref (nT N (i - 1)), .ref (nA N (i + 1)), va_rf (pvO N (i - 1))]))) (nR N i) (some ((nA N i), oB 28 [.ref (nT N i), .ref (nA N (i + 1)), .null]))) (nR N (i + 1)) (some ((nA N (i + 1)), oB 28 [.ref (nT N (i + 1)), va_rf (nxO N (i + 1)), .ref (nA N (i - 1))]))) (nR N i) (some ((nA N i), oB 28 [.ref (nT N i), .null, .null]))) (nR N i) (some ((nA N i), oB 28 [.null, .null, .null]))) (nR N (i + 1)) = some ((nA N (i + 1)), oB 28 [.ref (nT N (i + 1)), va_rf (nxO N (i + 1)), .ref (nA N (i - 1))]) := (vun (by omega)).trans hnn
      refine lv_aload_n hx hb dJ41_unlink_69 rfl (lv_at hl 3 rfl) ?_
      refine lv_dup hx hb dJ41_unlink_70 rfl ?_
      refine g_get (ci := 27) hx hb hts in_J41 hown hG (hG.at 0 rfl) rfl 1 (Nat.le_of_ble_eq_true rfl) (hts _ q2507) (fun _ h9 => h9) rfl dJ41_unlink_71 ?_
      refine lv_iconst (v := zI 1) hx hb dJ41_unlink_74 (by decide +kernel) ?_
      refine g_isub hx hb dJ41_unlink_75 ?_
      refine g_put (ci := 27) hx hb hts in_J41 tyJ41 tyJ41_ok nmJ41 hown hG 0 rfl rfl 1 (Nat.le_of_ble_eq_true rfl) (hts _ q2507) (fun _ h9 => h9) rfl (tyJ41_ok 1 (Nat.le_of_ble_eq_true rfl)) rfl rfl (Nat.le_of_ble_eq_true rfl) dJ41_unlink_76 (fun H locs (hG : gW X F (va_up (va_up (va_up (va_up (va_up V (nR N (i - 1)) (some ((nA N (i - 1)), oB 28 [.ref (nT N (i - 1)), .ref (nA N (i + 1)), va_rf (pvO N (i - 1))]))) (nR N i) (some ((nA N i), oB 28 [.ref (nT N i), .ref (nA N (i + 1)), .null]))) (nR N (i + 1)) (some ((nA N (i + 1)), oB 28 [.ref (nT N (i + 1)), va_rf (nxO N (i + 1)), .ref (nA N (i - 1))]))) (nR N i) (some ((nA N i), oB 28 [.ref (nT N i), .null, .null]))) (nR N i) (some ((nA N i), oB 28 [.null, .null, .null]))) ((ll, oB 27 [.int (zI mo), .int (zI ((N.length : Int) - 1)), .ref (nA N 0), .ref (nA N (N.length - 1))]) :: Z) s H locs) => ?_)
      refine lv_aload_n hx hb dJ41_unlink_79 rfl (lv_at hl 3 rfl) ?_
      refine lv_dup hx hb dJ41_unlink_80 rfl ?_
      refine g_get (ci := 27) hx hb hts in_J41 hown hG (hG.at 0 rfl) rfl 0 (Nat.le_of_ble_eq_true rfl) (hts _ q772) (u_same (hts _ q768)) rfl dJ41_unlink_81 ?_
      refine lv_iconst (v := zI 1) hx hb dJ41_unlink_84 (by decide +kernel) ?_
      refine g_iadd hx hb dJ41_unlink_85 ?_
      refine g_put (ci := 27) hx hb hts in_J41 tyJ41 tyJ41_ok nmJ41 hown hG 0 rfl rfl 0 (Nat.le_of_ble_eq_true rfl) (hts _ q772) (u_same (hts _ q768)) rfl (tyJ41_ok 0 (Nat.le_of_ble_eq_true rfl)) rfl rfl (Nat.le_of_ble_eq_true rfl) dJ41_unlink_86 (fun H locs (hG : gW X F (va_up (va_up (va_up (va_up (va_up V (nR N (i - 1)) (some ((nA N (i - 1)), oB 28 [.ref (nT N (i - 1)), .ref (nA N (i + 1)), va_rf (pvO N (i - 1))]))) (nR N i) (some ((nA N i), oB 28 [.ref (nT N i), .ref (nA N (i + 1)), .null]))) (nR N (i + 1)) (some ((nA N (i + 1)), oB 28 [.ref (nT N (i + 1)), va_rf (nxO N (i + 1)), .ref (nA N (i - 1))]))) (nR N i) (some ((nA N i), oB 28 [.ref (nT N i), .null, .null]))) (nR N i) (some ((nA N i), oB 28 [.null, .null, .null]))) ((ll, oB 27 [.int (zI (mo + 1)), .int (zI ((N.length : Int) - 1)), .ref (nA N 0), .ref (nA N (N.length - 1))]) :: Z) s H locs) => ?_)
      refine lv_aload_n hx hb dJ41_unlink_89 rfl (lv_at hl 2 rfl) ?_
      exact g_rret hx hb hr (Or.inl ⟨_, rfl⟩) hlocks hG (⟨rfl, rfl, hN.rem (i := i) hi (fun _ => by rw [show nxO N i = some (nA N (i + 1)) from if_pos (by omega)]; exact hnp) (fun _ => by rw [show pvO N i = some (nA N (i - 1)) from if_neg (by omega)]; exact hnn) (fun r h1 h2 h3 => ((va_up_ne _ _ h1).trans ((va_up_ne _ _ h1).trans ((va_up_ne _ _ (h3 (by omega))).trans ((va_up_ne _ _ h1).trans ((va_up_ne _ _ (h2 (by omega))).trans rfl)))))), (((((vx100.rf.up (by omega)).up (by omega)).up (by omega)).up (by omega)).up (by omega)), by rw [llE_rem hi, if_neg (by omega), if_neg (by omega)]; rfl⟩) ⟨Nat.le_of_ble_eq_true rfl, Nat.le_of_ble_eq_true rfl⟩ dJ41_unlink_90
    · have hnd := hN.2.2.2 i (by omega)
      have hrb7 := hN.2.1 i (by omega)
      rw [show nxO N i = none from if_neg (by omega)] at hnd
      rw [show pvO N i = some (nA N (i - 1)) from if_neg (by omega)] at hnd
      have hnd : V (nR N i) = some (nA N i, oB 28 [.ref (nT N i), .null, .ref (nA N (i - 1))]) := hnd
      have hne1 : nR N i ≠ nR N (i - 1) := hN.2.2.1 i (i - 1) hi (by omega) (by omega)
      have hnp := hN.2.2.2 (i - 1) (by omega)
      have hrb8 := hN.2.1 (i - 1) (by omega)
      have hnp : V (nR N (i - 1)) = some (nA N (i - 1), oB 28 [.ref (nT N (i - 1)), va_rf (nxO N (i - 1)), va_rf (pvO N (i - 1))]) := hnp
      refine lv_aload_n hx hb dJ41_unlink_0 rfl (lv_at hl 1 rfl) ?_
      refine g_get (ci := 28) hx hb hts in_J28 hown hG (hG.vo hnd) rfl 0 (Nat.le_of_ble_eq_true rfl) (hts _ q1228) (fun _ h9 => h9) rfl dJ41_unlink_1 ?_
      refine lv_astore_n (lv' := [(2, .ref (nT N i)), (0, .ref ll), (1, .ref (nA N i))]) hx hb dJ41_unlink_4 rfl hl (by decide) rfl (fun ls hl => ?_)
      refine lv_aload_n hx hb dJ41_unlink_5 rfl (lv_at hl 2 rfl) ?_
      refine g_get (ci := 28) hx hb hts in_J28 hown hG (hG.vo hnd) rfl 1 (Nat.le_of_ble_eq_true rfl) (hts _ q1231) (fun _ h9 => h9) rfl dJ41_unlink_6 ?_
      refine lv_astore_nN (lv' := [(3, .null), (2, .ref (nT N i)), (0, .ref ll), (1, .ref (nA N i))]) hx hb dJ41_unlink_9 rfl hl (by decide) rfl (fun ls hl => ?_)
      refine lv_aload_n hx hb dJ41_unlink_10 rfl (lv_at hl 3 rfl) ?_
      refine g_get (ci := 28) hx hb hts in_J28 hown hG (hG.vo hnd) rfl 2 (Nat.le_of_ble_eq_true rfl) (hts _ q1233) (fun _ h9 => h9) rfl dJ41_unlink_11 ?_
      refine lv_astore (lv' := [(4, .ref (nA N (i - 1))), (3, .null), (2, .ref (nT N i)), (0, .ref ll), (1, .ref (nA N i))]) hx hb dJ41_unlink_14 hl (by decide) rfl (fun ls hl => ?_)
      refine lv_aload hx hb dJ41_unlink_16 (lv_at hl 0 rfl) ?_
      refine lv_ifnonnull (tgt := 29) hx hb dJ41_unlink_18 (by decide) ?_
      refine lv_aload hx hb dJ41_unlink_29 (lv_at hl 0 rfl) ?_
      refine lv_aload_nN hx hb dJ41_unlink_31 rfl (lv_at hl 1 rfl) ?_
      refine g_putV (ci := 28) hx hb hts in_J28 tyJ28 tyJ28_ok nmJ28 hown hG hnp rfl 1 (Nat.le_of_ble_eq_true rfl) (hts _ q1231) (fun _ h9 => h9) rfl (tyJ28_ok 1 (Nat.le_of_ble_eq_true rfl)) rfl rfl (Nat.le_of_ble_eq_true rfl) dJ41_unlink_32 (fun H locs (hG : gW X F (va_up V (nR N (i - 1)) (some ((nA N (i - 1)), oB 28 [.ref (nT N (i - 1)), .null, va_rf (pvO N (i - 1))]))) ((ll, oB 27 [.int (zI mo), .int (zI (N.length : Int)), .ref (nA N 0), .ref (nA N (N.length - 1))]) :: Z) s H locs) => ?_)
      have hnd : (va_up V (nR N (i - 1)) (some ((nA N (i - 1)), oB 28 [.ref (nT N (i - 1)), .null, va_rf (pvO N (i - 1))]))) (nR N i) = some ((nA N i), oB 28 [.ref (nT N i), .null, .ref (nA N (i - 1))]) := (vun (by omega)).trans hnd
      have hnp : (va_up V (nR N (i - 1)) (some ((nA N (i - 1)), oB 28 [.ref (nT N (i - 1)), .null, va_rf (pvO N (i - 1))]))) (nR N (i - 1)) = some ((nA N (i - 1)), oB 28 [.ref (nT N (i - 1)), .null, va_rf (pvO N (i - 1))]) := vus
      refine lv_aload_n hx hb dJ41_unlink_35 rfl (lv_at hl 4 rfl) ?_
      refine lv_null hx hb dJ41_unlink_36 ?_
      refine g_putV (ci := 28) hx hb hts in_J28 tyJ28 tyJ28_ok nmJ28 hown hG hnd rfl 2 (Nat.le_of_ble_eq_true rfl) (hts _ q1233) (fun _ h9 => h9) rfl (tyJ28_ok 2 (Nat.le_of_ble_eq_true rfl)) rfl rfl (Nat.le_of_ble_eq_true rfl) dJ41_unlink_37 (fun H locs (hG : gW X F (va_up (va_up V (nR N (i - 1)) (some ((nA N (i - 1)), oB 28 [.ref (nT N (i - 1)), .null, va_rf (pvO N (i - 1))]))) (nR N i) (some ((nA N i), oB 28 [.ref (nT N i), .null, .null]))) ((ll, oB 27 [.int (zI mo), .int (zI (N.length : Int)), .ref (nA N 0), .ref (nA N (N.length - 1))]) :: Z) s H locs) => ?_)
      have hnd : (va_up (va_up V (nR N (i - 1)) (some ((nA N (i - 1)), oB 28 [.ref (nT N (i - 1)), .null, va_rf (pvO N (i - 1))]))) (nR N i) (some ((nA N i), oB 28 [.ref (nT N i), .null, .null]))) (nR N i) = some ((nA N i), oB 28 [.ref (nT N i), .null, .null]) := vus
      have hnp : (va_up (va_up V (nR N (i - 1)) (some ((nA N (i - 1)), oB 28 [.ref (nT N (i - 1)), .null, va_rf (pvO N (i - 1))]))) (nR N i) (some ((nA N i), oB 28 [.ref (nT N i), .null, .null]))) (nR N (i - 1)) = some ((nA N (i - 1)), oB 28 [.ref (nT N (i - 1)), .null, va_rf (pvO N (i - 1))]) := (vun (by omega)).trans hnp
      refine lv_aload_nN hx hb dJ41_unlink_40 rfl (lv_at hl 1 rfl) ?_
      refine lv_ifnonnullN hx hb dJ41_unlink_41 ?_
      refine lv_aload_n hx hb dJ41_unlink_44 rfl (lv_at hl 3 rfl) ?_
      refine lv_aload hx hb dJ41_unlink_45 (lv_at hl 0 rfl) ?_
      refine g_put (ci := 27) hx hb hts in_J41 tyJ41 tyJ41_ok nmJ41 hown hG 0 rfl rfl 3 (Nat.le_of_ble_eq_true rfl) (hts _ q2510) (fun _ h9 => h9) rfl (tyJ41_ok 3 (Nat.le_of_ble_eq_true rfl)) rfl rfl (Nat.le_of_ble_eq_true rfl) dJ41_unlink_47 (fun H locs (hG : gW X F (va_up (va_up V (nR N (i - 1)) (some ((nA N (i - 1)), oB 28 [.ref (nT N (i - 1)), .null, va_rf (pvO N (i - 1))]))) (nR N i) (some ((nA N i), oB 28 [.ref (nT N i), .null, .null]))) ((ll, oB 27 [.int (zI mo), .int (zI (N.length : Int)), .ref (nA N 0), .ref (nA N (i - 1))]) :: Z) s H locs) => ?_)
      refine lv_goto (tgt := 64) hx hb dJ41_unlink_50 (by decide) ?_
      refine lv_aload_n hx hb dJ41_unlink_64 rfl (lv_at hl 4 rfl) ?_
      refine lv_null hx hb dJ41_unlink_65 ?_
      refine g_putV (ci := 28) hx hb hts in_J28 tyJ28 tyJ28_ok nmJ28 hown hG hnd rfl 0 (Nat.le_of_ble_eq_true rfl) (hts _ q1228) (fun _ h9 => h9) rfl (tyJ28_ok 0 (Nat.le_of_ble_eq_true rfl)) rfl rfl (Nat.le_of_ble_eq_true rfl) dJ41_unlink_66 (fun H locs (hG : gW X F (va_up (va_up (va_up V (nR N (i - 1)) (some ((nA N (i - 1)), oB 28 [.ref (nT N (i - 1)), .null, va_rf (pvO N (i - 1))]))) (nR N i) (some ((nA N i), oB 28 [.ref (nT N i), .null, .null]))) (nR N i) (some ((nA N i), oB 28 [.null, .null, .null]))) ((ll, oB 27 [.int (zI mo), .int (zI (N.length : Int)), .ref (nA N 0), .ref (nA N (i - 1))]) :: Z) s H locs) => ?_)
      have hnd : (va_up (va_up (va_up V (nR N (i - 1)) (some ((nA N (i - 1)), oB 28 [.ref (nT N (i - 1)), .null, va_rf (pvO N (i - 1))]))) (nR N i) (some ((nA N i), oB 28 [.ref (nT N i), .null, .null]))) (nR N i) (some ((nA N i), oB 28 [.null, .null, .null]))) (nR N i) = some ((nA N i), oB 28 [.null, .null, .null]) := vus
      have hnp : (va_up (va_up (va_up V (nR N (i - 1)) (some ((nA N (i - 1)), oB 28 [.ref (nT N (i - 1)), .null, va_rf (pvO N (i - 1))]))) (nR N i) (some ((nA N i), oB 28 [.ref (nT N i), .null, .null]))) (nR N i) (some ((nA N i), oB 28 [.null, .null, .null]))) (nR N (i - 1)) = some ((nA N (i - 1)), oB 28 [.ref (nT N (i - 1)), .null, va_rf (pvO N (i - 1))]) := (vun (by omega)).trans hnp
      refine lv_aload_n hx hb dJ41_unlink_69 rfl (lv_at hl 3 rfl) ?_
      refine lv_dup hx hb dJ41_unlink_70 rfl ?_
      refine g_get (ci := 27) hx hb hts in_J41 hown hG (hG.at 0 rfl) rfl 1 (Nat.le_of_ble_eq_true rfl) (hts _ q2507) (fun _ h9 => h9) rfl dJ41_unlink_71 ?_
      refine lv_iconst (v := zI 1) hx hb dJ41_unlink_74 (by decide +kernel) ?_
      refine g_isub hx hb dJ41_unlink_75 ?_
      refine g_put (ci := 27) hx hb hts in_J41 tyJ41 tyJ41_ok nmJ41 hown hG 0 rfl rfl 1 (Nat.le_of_ble_eq_true rfl) (hts _ q2507) (fun _ h9 => h9) rfl (tyJ41_ok 1 (Nat.le_of_ble_eq_true rfl)) rfl rfl (Nat.le_of_ble_eq_true rfl) dJ41_unlink_76 (fun H locs (hG : gW X F (va_up (va_up (va_up V (nR N (i - 1)) (some ((nA N (i - 1)), oB 28 [.ref (nT N (i - 1)), .null, va_rf (pvO N (i - 1))]))) (nR N i) (some ((nA N i), oB 28 [.ref (nT N i), .null, .null]))) (nR N i) (some ((nA N i), oB 28 [.null, .null, .null]))) ((ll, oB 27 [.int (zI mo), .int (zI ((N.length : Int) - 1)), .ref (nA N 0), .ref (nA N (i - 1))]) :: Z) s H locs) => ?_)
      refine lv_aload_n hx hb dJ41_unlink_79 rfl (lv_at hl 3 rfl) ?_
      refine lv_dup hx hb dJ41_unlink_80 rfl ?_
      refine g_get (ci := 27) hx hb hts in_J41 hown hG (hG.at 0 rfl) rfl 0 (Nat.le_of_ble_eq_true rfl) (hts _ q772) (u_same (hts _ q768)) rfl dJ41_unlink_81 ?_
      refine lv_iconst (v := zI 1) hx hb dJ41_unlink_84 (by decide +kernel) ?_
      refine g_iadd hx hb dJ41_unlink_85 ?_
      refine g_put (ci := 27) hx hb hts in_J41 tyJ41 tyJ41_ok nmJ41 hown hG 0 rfl rfl 0 (Nat.le_of_ble_eq_true rfl) (hts _ q772) (u_same (hts _ q768)) rfl (tyJ41_ok 0 (Nat.le_of_ble_eq_true rfl)) rfl rfl (Nat.le_of_ble_eq_true rfl) dJ41_unlink_86 (fun H locs (hG : gW X F (va_up (va_up (va_up V (nR N (i - 1)) (some ((nA N (i - 1)), oB 28 [.ref (nT N (i - 1)), .null, va_rf (pvO N (i - 1))]))) (nR N i) (some ((nA N i), oB 28 [.ref (nT N i), .null, .null]))) (nR N i) (some ((nA N i), oB 28 [.null, .null, .null]))) ((ll, oB 27 [.int (zI (mo + 1)), .int (zI ((N.length : Int) - 1)), .ref (nA N 0), .ref (nA N (i - 1))]) :: Z) s H locs) => ?_)
      refine lv_aload_n hx hb dJ41_unlink_89 rfl (lv_at hl 2 rfl) ?_
      exact g_rret hx hb hr (Or.inl ⟨_, rfl⟩) hlocks hG (⟨rfl, rfl, hN.rem (i := i) hi (fun _ => by rw [show nxO N i = none from if_neg (by omega)]; exact hnp) (fun _ => by omega) (fun r h1 h2 h3 => ((va_up_ne _ _ h1).trans ((va_up_ne _ _ h1).trans ((va_up_ne _ _ (h2 (by omega))).trans rfl)))), (((vx100.rf.up (by omega)).up (by omega)).up (by omega)), by rw [llE_rem hi, if_neg (by omega), if_pos (by omega), show pvO N i = some (nA N (i - 1)) from if_neg (by omega)]; rfl⟩) ⟨Nat.le_of_ble_eq_true rfl, Nat.le_of_ble_eq_true rfl⟩ dJ41_unlink_90

set_option maxHeartbeats 4000000 in
theorem metJ41_addFirst {l : Launch} {X : gX} {F : gF} {V : gV} {Z : va_W} {e9 ll B : Nat} {mo : Int} {N : List Nd} (hN : llN V B N) (h24 : N.length ≤ 1000) : Met l yJ41_addFirst (ws_ yJ41_addFirst cJ41_addFirst 2 none) ({ frames := 3, cells := 1, slots := 3, locals := 66 }) (gP X F V ((ll, oB 27 [.int (zI mo), .int (zI (N.length : Int)), va_rf (hdO N), va_rf (tlO N)]) :: Z) [.ref ll, .ref e9]) (gQv X (fun G U ws => F = G ∧ ∃ a9 : Nat, llN U (B + 1) (insN N 0 (B, a9, e9)) ∧ vx100 V U ∧ ((ll, llE (mo + 1) (insN N 0 (B, a9, e9))) :: Z) = ws)) 1 3 (gA X) := by
  refine Met.g (by decide) (Nat.le_of_ble_eq_true rfl) ?_
  intro p e s m below meth c ls hx hb hr hts hown hlocks hml hin hG hl
  have hl : lv_has ls 2 [(0, .ref ll), (1, .ref e9)] := hl
  refine lv_aload_n hx hb dJ41_addFirst_0 rfl (lv_at hl 0 rfl) ?_
  refine lv_aload_n hx hb dJ41_addFirst_1 rfl (lv_at hl 1 rfl) ?_
  refine g_cv (va_runV (As := [.ref e9]) (rest := []) ⟨hx, hb, hml, hown, hts⟩ (metJ41_linkFirst hN h24) (cwV 1 hts (lw_V q3167 q3169 qs39 q156 q3170) rfl rfl rfl (by decide +kernel) ⟨Nat.le_of_ble_eq_true rfl, Nat.le_of_ble_eq_true rfl⟩) (g_preV hG (g_recv hG (hG.at 0 rfl) (ci := 27) rfl)) rfl rfl hl.1 rfl (lv_room (Nat.le_of_ble_eq_true rfl)) dJ41_addFirst_2 ⟨Nat.le_of_ble_eq_true rfl, Nat.le_of_ble_eq_true rfl⟩) hG (fun F_2 V_3 ws_ H locs hp hG => ?_)
  obtain ⟨rfl, a9, hN9, hv9, rfl⟩ := hp
  have hG : gW X F V_3 ((ll, llE (mo + 1) (insN N 0 (B, a9, e9))) :: Z) s H locs := hG
  exact g_vret hx hb hr hlocks hG (⟨rfl, a9, hN9, hv9, rfl⟩) ⟨Nat.le_of_ble_eq_true rfl, Nat.le_of_ble_eq_true rfl⟩ dJ41_addFirst_5

set_option maxHeartbeats 4000000 in
theorem metJ41_addLast {l : Launch} {X : gX} {F : gF} {V : gV} {Z : va_W} {e9 ll B : Nat} {mo : Int} {N : List Nd} (hN : llN V B N) (h24 : N.length ≤ 1000) : Met l yJ41_addLast (ws_ yJ41_addLast cJ41_addLast 2 none) ({ frames := 3, cells := 1, slots := 3, locals := 66 }) (gP X F V ((ll, oB 27 [.int (zI mo), .int (zI (N.length : Int)), va_rf (hdO N), va_rf (tlO N)]) :: Z) [.ref ll, .ref e9]) (gQv X (fun G U ws => F = G ∧ ∃ a9 : Nat, llN U (B + 1) (insN N N.length (B, a9, e9)) ∧ vx100 V U ∧ ((ll, llE (mo + 1) (insN N N.length (B, a9, e9))) :: Z) = ws)) 1 3 (gA X) := by
  refine Met.g (by decide) (Nat.le_of_ble_eq_true rfl) ?_
  intro p e s m below meth c ls hx hb hr hts hown hlocks hml hin hG hl
  have hl : lv_has ls 2 [(0, .ref ll), (1, .ref e9)] := hl
  refine lv_aload_n hx hb dJ41_addLast_0 rfl (lv_at hl 0 rfl) ?_
  refine lv_aload_n hx hb dJ41_addLast_1 rfl (lv_at hl 1 rfl) ?_
  refine g_cv (va_runV (As := [.ref e9]) (rest := []) ⟨hx, hb, hml, hown, hts⟩ (metJ41_linkLast hN h24) (cwV 1 hts (lw_V q1216 q1217 q1218 q156 q1219) rfl rfl rfl (by decide +kernel) ⟨Nat.le_of_ble_eq_true rfl, Nat.le_of_ble_eq_true rfl⟩) (g_preV hG (g_recv hG (hG.at 0 rfl) (ci := 27) rfl)) rfl rfl hl.1 rfl (lv_room (Nat.le_of_ble_eq_true rfl)) dJ41_addLast_2 ⟨Nat.le_of_ble_eq_true rfl, Nat.le_of_ble_eq_true rfl⟩) hG (fun F_2 V_3 ws_ H locs hp hG => ?_)
  obtain ⟨rfl, a9, hN9, hv9, rfl⟩ := hp
  have hG : gW X F V_3 ((ll, llE (mo + 1) (insN N N.length (B, a9, e9))) :: Z) s H locs := hG
  exact g_vret hx hb hr hlocks hG (⟨rfl, a9, hN9, hv9, rfl⟩) ⟨Nat.le_of_ble_eq_true rfl, Nat.le_of_ble_eq_true rfl⟩ dJ41_addLast_5

set_option maxHeartbeats 4000000 in
theorem metJ41_add {l : Launch} {X : gX} {F : gF} {V : gV} {Z : va_W} {e9 i ll B : Nat} {mo : Int} {N : List Nd} (hN : llN V B N) (h24 : N.length ≤ 1000) (hi : i ≤ N.length) : Met l yJ41_add (ws_ yJ41_add cJ41_add 3 none) ({ frames := 3, cells := 1, slots := 3, locals := 67 }) (gP X F V ((ll, oB 27 [.int (zI mo), .int (zI (N.length : Int)), va_rf (hdO N), va_rf (tlO N)]) :: Z) [.ref ll, .int (zI (i : Int)), .ref e9]) (gQv X (fun G U ws => F = G ∧ ∃ a9 : Nat, llN U (B + 1) (insN N i (B, a9, e9)) ∧ vx100 V U ∧ ((ll, llE (mo + 1) (insN N i (B, a9, e9))) :: Z) = ws)) 1 3 (gA X) := by
  refine Met.g (by decide) (Nat.le_of_ble_eq_true rfl) ?_
  intro p e s m below meth c ls hx hb hr hts hown hlocks hml hin hG hl
  have hl : lv_has ls 3 [(0, .ref ll), (1, .int (zI (i : Int))), (2, .ref e9)] := hl
  refine lv_aload_n hx hb dJ41_add_0 rfl (lv_at hl 0 rfl) ?_
  refine lv_iload_n hx hb dJ41_add_1 rfl (lv_at hl 1 rfl) ?_
  refine g_cv (va_runV (As := [.int (zI (i : Int))]) (rest := []) ⟨hx, hb, hml, hown, hts⟩ (metJ41_checkPositionIndex (i := i) h24 hi) (cwV 1 hts (lw_V q1194 q1196 qs14 q156 q1198) rfl rfl rfl (by decide +kernel) ⟨Nat.le_of_ble_eq_true rfl, Nat.le_of_ble_eq_true rfl⟩) (g_preV hG (g_recv hG (hG.at 0 rfl) (ci := 27) rfl)) rfl rfl hl.1 rfl (lv_room (Nat.le_of_ble_eq_true rfl)) dJ41_add_2 ⟨Nat.le_of_ble_eq_true rfl, Nat.le_of_ble_eq_true rfl⟩) hG (fun F_2 V_3 ws_ H locs hp hG => ?_)
  obtain ⟨rfl, rfl, rfl⟩ := hp
  have hG : gW X F V ((ll, oB 27 [.int (zI mo), .int (zI (N.length : Int)), va_rf (hdO N), va_rf (tlO N)]) :: Z) s H locs := hG
  refine lv_iload_n hx hb dJ41_add_5 rfl (lv_at hl 1 rfl) ?_
  refine lv_aload_n hx hb dJ41_add_6 rfl (lv_at hl 0 rfl) ?_
  refine g_get (ci := 27) hx hb hts in_J41 hown hG (hG.at 0 rfl) rfl 1 (Nat.le_of_ble_eq_true rfl) (hts _ q2507) (fun _ h9 => h9) rfl dJ41_add_7 ?_
  refine g_cne (tgt := 21) hx hb dJ41_add_10 (by decide) (by omega) (fun h1 => ?_) (fun h1 => ?_)
  · refine lv_aload_n hx hb dJ41_add_21 rfl (lv_at hl 0 rfl) ?_
    refine lv_aload_n hx hb dJ41_add_22 rfl (lv_at hl 2 rfl) ?_
    refine lv_aload_n hx hb dJ41_add_23 rfl (lv_at hl 0 rfl) ?_
    refine lv_iload_n hx hb dJ41_add_24 rfl (lv_at hl 1 rfl) ?_
    refine g_cr (va_runV (As := [.int (zI (i : Int))]) (rest := [.ref e9, .ref ll]) ⟨hx, hb, hml, hown, hts⟩ (metJ41_node (i := i) hN h24 (by omega)) (cwV 1 hts (lw_V q1241 q1242 q1243 q156 q1244) rfl rfl rfl (by decide +kernel) ⟨Nat.le_of_ble_eq_true rfl, Nat.le_of_ble_eq_true rfl⟩) (g_preV hG (g_recv hG (hG.at 0 rfl) (ci := 27) rfl)) rfl rfl hl.1 rfl (lv_room (Nat.le_of_ble_eq_true rfl)) dJ41_add_25 ⟨Nat.le_of_ble_eq_true rfl, Nat.le_of_ble_eq_true rfl⟩) hG (fun r_4 F_5 V_6 ws_ H locs hp hG => ?_)
    obtain ⟨rfl, rfl, rfl, rfl⟩ := hp
    have hG : gW X F V ((ll, oB 27 [.int (zI mo), .int (zI (N.length : Int)), va_rf (hdO N), va_rf (tlO N)]) :: Z) s H locs := hG
    refine g_cv (va_runV (As := [.ref e9, .ref (nA N i)]) (rest := []) ⟨hx, hb, hml, hown, hts⟩ (metJ41_linkBefore hN h24 (by omega)) (cwV 2 hts (lw_V q1245 q1246 q1247 q156 q1248) rfl rfl rfl (by decide +kernel) ⟨Nat.le_of_ble_eq_true rfl, Nat.le_of_ble_eq_true rfl⟩) (g_preV hG (g_recv hG (hG.at 0 rfl) (ci := 27) rfl)) rfl rfl hl.1 rfl (lv_room (Nat.le_of_ble_eq_true rfl)) dJ41_add_28 ⟨Nat.le_of_ble_eq_true rfl, Nat.le_of_ble_eq_true rfl⟩) hG (fun F_8 V_9 ws_ H locs hp hG => ?_)
    obtain ⟨rfl, a9, hN9, hv9, rfl⟩ := hp
    have hG : gW X F V_9 ((ll, llE (mo + 1) (insN N i (B, a9, e9))) :: Z) s H locs := hG
    exact g_vret hx hb hr hlocks hG (⟨rfl, a9, hN9, hv9, rfl⟩) ⟨Nat.le_of_ble_eq_true rfl, Nat.le_of_ble_eq_true rfl⟩ dJ41_add_31
  · have hil : i = N.length := by omega
    subst hil
    refine lv_aload_n hx hb dJ41_add_13 rfl (lv_at hl 0 rfl) ?_
    refine lv_aload_n hx hb dJ41_add_14 rfl (lv_at hl 2 rfl) ?_
    refine g_cv (va_runV (As := [.ref e9]) (rest := []) ⟨hx, hb, hml, hown, hts⟩ (metJ41_linkLast hN h24) (cwV 1 hts (lw_V q1216 q1217 q1218 q156 q1219) rfl rfl rfl (by decide +kernel) ⟨Nat.le_of_ble_eq_true rfl, Nat.le_of_ble_eq_true rfl⟩) (g_preV hG (g_recv hG (hG.at 0 rfl) (ci := 27) rfl)) rfl rfl hl.1 rfl (lv_room (Nat.le_of_ble_eq_true rfl)) dJ41_add_15 ⟨Nat.le_of_ble_eq_true rfl, Nat.le_of_ble_eq_true rfl⟩) hG (fun F_11 V_12 ws_ H locs hp hG => ?_)
    obtain ⟨rfl, a9, hN9, hv9, rfl⟩ := hp
    have hG : gW X F V_12 ((ll, llE (mo + 1) (insN N N.length (B, a9, e9))) :: Z) s H locs := hG
    refine lv_goto (tgt := 31) hx hb dJ41_add_18 (by decide) ?_
    exact g_vret hx hb hr hlocks hG (⟨rfl, a9, hN9, hv9, rfl⟩) ⟨Nat.le_of_ble_eq_true rfl, Nat.le_of_ble_eq_true rfl⟩ dJ41_add_31

set_option maxHeartbeats 4000000 in
theorem metJ41_remove {l : Launch} {X : gX} {F : gF} {V : gV} {Z : va_W} {i ll B : Nat} {mo : Int} {N : List Nd} (hN : llN V B N) (h24 : N.length ≤ 1000) (hi : i < N.length) : Met l yJ41_remove (ws_ yJ41_remove cJ41_remove 2 (some (FieldType.object "java/lang/Object"))) ({ frames := 2, cells := 0, slots := 0, locals := 42 }) (gP X F V ((ll, oB 27 [.int (zI mo), .int (zI (N.length : Int)), va_rf (hdO N), va_rf (tlO N)]) :: Z) [.ref ll, .int (zI (i : Int))]) (gQr X (fun u G U ws => u = nT N i ∧ F = G ∧ llN U B (N.eraseIdx i) ∧ vx100 V U ∧ ((ll, llE (mo + 1) (N.eraseIdx i)) :: Z) = ws)) 0 0 (gA X) := by
  refine Met.g (by decide) (Nat.le_of_ble_eq_true rfl) ?_
  intro p e s m below meth c ls hx hb hr hts hown hlocks hml hin hG hl
  have hl : lv_has ls 2 [(0, .ref ll), (1, .int (zI (i : Int)))] := hl
  refine lv_aload_n hx hb dJ41_remove_0 rfl (lv_at hl 0 rfl) ?_
  refine lv_iload_n hx hb dJ41_remove_1 rfl (lv_at hl 1 rfl) ?_
  refine g_cv (va_runV (As := [.int (zI (i : Int))]) (rest := []) ⟨hx, hb, hml, hown, hts⟩ (metJ41_checkElementIndex (i := i) h24 hi) (cwV 1 hts (lw_V q1550 q1552 qs17 q156 q1553) rfl rfl rfl (by decide +kernel) ⟨Nat.le_of_ble_eq_true rfl, Nat.le_of_ble_eq_true rfl⟩) (g_preV hG (g_recv hG (hG.at 0 rfl) (ci := 27) rfl)) rfl rfl hl.1 rfl (lv_room (Nat.le_of_ble_eq_true rfl)) dJ41_remove_2 ⟨Nat.le_of_ble_eq_true rfl, Nat.le_of_ble_eq_true rfl⟩) hG (fun F_2 V_3 ws_ H locs hp hG => ?_)
  obtain ⟨rfl, rfl, rfl⟩ := hp
  have hG : gW X F V ((ll, oB 27 [.int (zI mo), .int (zI (N.length : Int)), va_rf (hdO N), va_rf (tlO N)]) :: Z) s H locs := hG
  refine lv_aload_n hx hb dJ41_remove_5 rfl (lv_at hl 0 rfl) ?_
  refine lv_aload_n hx hb dJ41_remove_6 rfl (lv_at hl 0 rfl) ?_
  refine lv_iload_n hx hb dJ41_remove_7 rfl (lv_at hl 1 rfl) ?_
  refine g_cr (va_runV (As := [.int (zI (i : Int))]) (rest := [.ref ll]) ⟨hx, hb, hml, hown, hts⟩ (metJ41_node (i := i) hN h24 hi) (cwV 1 hts (lw_V q1241 q1242 q1243 q156 q1244) rfl rfl rfl (by decide +kernel) ⟨Nat.le_of_ble_eq_true rfl, Nat.le_of_ble_eq_true rfl⟩) (g_preV hG (g_recv hG (hG.at 0 rfl) (ci := 27) rfl)) rfl rfl hl.1 rfl (lv_room (Nat.le_of_ble_eq_true rfl)) dJ41_remove_8 ⟨Nat.le_of_ble_eq_true rfl, Nat.le_of_ble_eq_true rfl⟩) hG (fun r_4 F_5 V_6 ws_ H locs hp hG => ?_)
  obtain ⟨rfl, rfl, rfl, rfl⟩ := hp
  have hG : gW X F V ((ll, oB 27 [.int (zI mo), .int (zI (N.length : Int)), va_rf (hdO N), va_rf (tlO N)]) :: Z) s H locs := hG
  refine g_cr (va_runV (As := [.ref (nA N i)]) (rest := []) ⟨hx, hb, hml, hown, hts⟩ (metJ41_unlink hN h24 hi) (cwV 1 hts (lw_V q2585 q2586 q2587 q156 q2588) rfl rfl rfl (by decide +kernel) ⟨Nat.le_of_ble_eq_true rfl, Nat.le_of_ble_eq_true rfl⟩) (g_preV hG (g_recv hG (hG.at 0 rfl) (ci := 27) rfl)) rfl rfl hl.1 rfl (lv_room (Nat.le_of_ble_eq_true rfl)) dJ41_remove_11 ⟨Nat.le_of_ble_eq_true rfl, Nat.le_of_ble_eq_true rfl⟩) hG (fun r_7 F_8 V_9 ws_ H locs hp hG => ?_)
  obtain ⟨rfl, rfl, hN9, hv9, rfl⟩ := hp
  have hG : gW X F V_9 ((ll, llE (mo + 1) (N.eraseIdx i)) :: Z) s H locs := hG
  exact g_rret hx hb hr (Or.inl ⟨_, rfl⟩) hlocks hG (⟨rfl, rfl, hN9, hv9, rfl⟩) ⟨Nat.le_of_ble_eq_true rfl, Nat.le_of_ble_eq_true rfl⟩ dJ41_remove_14

set_option maxHeartbeats 4000000 in
theorem metJ41_set {l : Launch} {X : gX} {F : gF} {V : gV} {Z : va_W} {e9 i ll B : Nat} {mo : Int} {N : List Nd} (hN : llN V B N) (h24 : N.length ≤ 1000) (hi : i < N.length) : Met l yJ41_set (ws_ yJ41_set cJ41_set 5 (some (FieldType.object "java/lang/Object"))) ({ frames := 2, cells := 0, slots := 0, locals := 42 }) (gP X F V ((ll, oB 27 [.int (zI mo), .int (zI (N.length : Int)), va_rf (hdO N), va_rf (tlO N)]) :: Z) [.ref ll, .int (zI (i : Int)), .ref e9]) (gQr X (fun u G U ws => u = nT N i ∧ F = G ∧ llN U B (N.set i (nR N i, nA N i, e9)) ∧ vx100 V U ∧ ((ll, llE mo (N.set i (nR N i, nA N i, e9))) :: Z) = ws)) 0 0 (gA X) := by
  refine Met.g (by decide) (Nat.le_of_ble_eq_true rfl) ?_
  intro p e s m below meth c ls hx hb hr hts hown hlocks hml hin hG hl
  have hl : lv_has ls 5 [(0, .ref ll), (1, .int (zI (i : Int))), (2, .ref e9)] := hl
  have hB := hN.1
  refine lv_aload_n hx hb dJ41_set_0 rfl (lv_at hl 0 rfl) ?_
  refine lv_iload_n hx hb dJ41_set_1 rfl (lv_at hl 1 rfl) ?_
  refine g_cv (va_runV (As := [.int (zI (i : Int))]) (rest := []) ⟨hx, hb, hml, hown, hts⟩ (metJ41_checkElementIndex (i := i) h24 hi) (cwV 1 hts (lw_V q1550 q1552 qs17 q156 q1553) rfl rfl rfl (by decide +kernel) ⟨Nat.le_of_ble_eq_true rfl, Nat.le_of_ble_eq_true rfl⟩) (g_preV hG (g_recv hG (hG.at 0 rfl) (ci := 27) rfl)) rfl rfl hl.1 rfl (lv_room (Nat.le_of_ble_eq_true rfl)) dJ41_set_2 ⟨Nat.le_of_ble_eq_true rfl, Nat.le_of_ble_eq_true rfl⟩) hG (fun F_2 V_3 ws_ H locs hp hG => ?_)
  obtain ⟨rfl, rfl, rfl⟩ := hp
  have hG : gW X F V ((ll, oB 27 [.int (zI mo), .int (zI (N.length : Int)), va_rf (hdO N), va_rf (tlO N)]) :: Z) s H locs := hG
  refine lv_aload_n hx hb dJ41_set_5 rfl (lv_at hl 0 rfl) ?_
  refine lv_iload_n hx hb dJ41_set_6 rfl (lv_at hl 1 rfl) ?_
  refine g_cr (va_runV (As := [.int (zI (i : Int))]) (rest := []) ⟨hx, hb, hml, hown, hts⟩ (metJ41_node (i := i) hN h24 hi) (cwV 1 hts (lw_V q1241 q1242 q1243 q156 q1244) rfl rfl rfl (by decide +kernel) ⟨Nat.le_of_ble_eq_true rfl, Nat.le_of_ble_eq_true rfl⟩) (g_preV hG (g_recv hG (hG.at 0 rfl) (ci := 27) rfl)) rfl rfl hl.1 rfl (lv_room (Nat.le_of_ble_eq_true rfl)) dJ41_set_7 ⟨Nat.le_of_ble_eq_true rfl, Nat.le_of_ble_eq_true rfl⟩) hG (fun r_4 F_5 V_6 ws_ H locs hp hG => ?_)
  obtain ⟨rfl, rfl, rfl, rfl⟩ := hp
  have hG : gW X F V ((ll, oB 27 [.int (zI mo), .int (zI (N.length : Int)), va_rf (hdO N), va_rf (tlO N)]) :: Z) s H locs := hG
  have hnd := hN.2.2.2 i (by omega)
  have hrb7 := hN.2.1 i (by omega)
  have hnd : V (nR N i) = some (nA N i, oB 28 [.ref (nT N i), va_rf (nxO N i), va_rf (pvO N i)]) := hnd
  refine lv_astore_n (lv' := [(3, .ref (nA N i)), (0, .ref ll), (1, .int (zI (i : Int))), (2, .ref e9)]) hx hb dJ41_set_10 rfl hl (by decide) rfl (fun ls hl => ?_)
  refine lv_aload_n hx hb dJ41_set_11 rfl (lv_at hl 0 rfl) ?_
  refine g_get (ci := 28) hx hb hts in_J28 hown hG (hG.vo hnd) rfl 0 (Nat.le_of_ble_eq_true rfl) (hts _ q1228) (fun _ h9 => h9) rfl dJ41_set_12 ?_
  refine lv_astore (lv' := [(4, .ref (nT N i)), (3, .ref (nA N i)), (0, .ref ll), (1, .int (zI (i : Int))), (2, .ref e9)]) hx hb dJ41_set_15 hl (by decide) rfl (fun ls hl => ?_)
  refine lv_aload_n hx hb dJ41_set_17 rfl (lv_at hl 1 rfl) ?_
  refine lv_aload_n hx hb dJ41_set_18 rfl (lv_at hl 4 rfl) ?_
  refine g_putV (ci := 28) hx hb hts in_J28 tyJ28 tyJ28_ok nmJ28 hown hG hnd rfl 0 (Nat.le_of_ble_eq_true rfl) (hts _ q1228) (fun _ h9 => h9) rfl (tyJ28_ok 0 (Nat.le_of_ble_eq_true rfl)) rfl rfl (Nat.le_of_ble_eq_true rfl) dJ41_set_19 (fun H locs (hG : gW X F (va_up V (nR N i) (some ((nA N i), oB 28 [.ref e9, va_rf (nxO N i), va_rf (pvO N i)]))) ((ll, oB 27 [.int (zI mo), .int (zI (N.length : Int)), va_rf (hdO N), va_rf (tlO N)]) :: Z) s H locs) => ?_)
  have hnd : (va_up V (nR N i) (some ((nA N i), oB 28 [.ref e9, va_rf (nxO N i), va_rf (pvO N i)]))) (nR N i) = some ((nA N i), oB 28 [.ref e9, va_rf (nxO N i), va_rf (pvO N i)]) := vus
  refine lv_aload hx hb dJ41_set_22 (lv_at hl 0 rfl) ?_
  exact g_rret hx hb hr (Or.inl ⟨_, rfl⟩) hlocks hG (⟨rfl, rfl, hN.put hi hnd (fun r h1 => va_up_ne _ _ h1), vx100.rf.up (by omega), by rw [llE_set]⟩) ⟨Nat.le_of_ble_eq_true rfl, Nat.le_of_ble_eq_true rfl⟩ dJ41_set_24

