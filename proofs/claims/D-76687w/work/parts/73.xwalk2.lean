set_option maxRecDepth 100000
theorem goesK_0 {cf : Nat → Option Nat} {nb a p q x y : Nat} (h : fSpan cf p (q - p + 1) = some (x, y)) : goesK cf nb 0 a p q = some (x, y) := by
  unfold goesK; rw [if_neg (by decide), if_neg (by decide), if_neg (by decide), h]; rfl
theorem goesK_1n {cf : Nat → Option Nat} {nb a p q : Nat} (h : cf p = none) : goesK cf nb 1 a p q = none := by unfold goesK; rw [if_pos rfl, h]; rfl
theorem goesK_1s {cf : Nat → Option Nat} {nb a p q x : Nat} (h : cf p = some x) : goesK cf nb 1 a p q = some (x, x) := by unfold goesK; rw [if_pos rfl, h]; rfl
theorem goesK_3n {cf : Nat → Option Nat} {nb a p q : Nat} (h : upC cf p = none) : goesK cf nb 3 a p q = none := by unfold goesK; rw [if_neg (by decide), if_pos rfl, h]; rfl
theorem goesK_3s {cf : Nat → Option Nat} {nb a p q x : Nat} (h : upC cf p = some x) : goesK cf nb 3 a p q = some (x, x) := by unfold goesK; rw [if_neg (by decide), if_pos rfl, h]; rfl
theorem goesK_6n {cf : Nat → Option Nat} {nb a p q : Nat} (h : upC cf p = none) : goesK cf nb 6 a p q = none := by unfold goesK; rw [if_neg (by decide), if_neg (by decide), if_pos rfl, h]; rfl
theorem goesK_6s {cf : Nat → Option Nat} {nb a p q x : Nat} (h : upC cf p = some x) : goesK cf nb 6 a p q = some (x, nb - 1) := by unfold goesK; rw [if_neg (by decide), if_neg (by decide), if_pos rfl, h]; rfl
theorem fSpan_lt {cf : Nat → Option Nat} {nb p k x y : Nat} (hc : ∀ i x, cf i = some x → x < nb) (h : fSpan cf p k = some (x, y)) : x ≤ y ∧ y < nb := by
  rcases (fL_cases (cf := cf) (N := nb) hc p k).2 with ⟨g1, -, -⟩ | ⟨y0, z0, g1, g2, -, g4, g5⟩
  · rw [fSpan_n g1] at h; cases h
  · rw [fSpan_s g1 g2] at h; cases h; exact ⟨g4, g5⟩
theorem goesK_lt {cf : Nat → Option Nat} {nb kd a p q x y : Nat} (hc : ∀ i x, cf i = some x → x < nb) (h : goesK cf nb kd a p q = some (x, y)) : x ≤ y ∧ y < nb := by
  unfold goesK at h
  split at h
  · cases hq : cf p with
    | none => rw [hq] at h; cases h
    | some z => rw [hq] at h; cases h; exact ⟨Nat.le_refl _, hc _ _ hq⟩
  · split at h
    · cases hq : upC cf p with
      | none => rw [hq] at h; cases h
      | some z => rw [hq] at h; cases h; exact ⟨Nat.le_refl _, upC_lt hc p _ hq⟩
    · split at h
      · cases hq : upC cf p with
        | none => rw [hq] at h; cases h
        | some z => rw [hq] at h; have h : some (z, nb - 1) = some (x, y) := h; cases h; have := upC_lt hc p _ hq; exact ⟨by omega, by omega⟩
      · cases hs : fSpan cf p (q - p + 1) with
        | none => rw [hs] at h; cases h
        | some z =>
          obtain ⟨x', y'⟩ := z
          rw [hs] at h
          have h : (if kd = 4 then (if a * (q - p + 1) ≤ 10 * fCnt cf p (q - p + 1) then some (x', y') else none) else if kd = 2 then (if fCnt cf p (q - p + 1) = q - p + 1 ∧ y' - x' + 1 ≤ q - p + 1 then some (x', y') else none) else if kd = 5 then (if fCnt cf p (q - p + 1) = q - p + 1 ∧ y' - x' + 1 ≤ q - p + 1 + a then some (x', y') else none) else some (x', y')) = some (x, y) := h
          have hl := fSpan_lt hc hs
          have e : (x', y') = (x, y) := by
            (repeat' (split at h)) <;> first | (cases h; rfl) | cases h
          cases e; exact hl
set_option maxHeartbeats 4000000 in
theorem metX25_init {l : Launch} {X : gX} {F : gF} {V : gV} {Z : va_W} {cx : Nat} : Met l yX25_init (ws_ yX25_init cX25_init 1 none) ({ frames := 1, cells := 1, slots := 0, locals := 20 }) (gP X F V ((cx, oB 23 [.null, .null, .null]) :: Z) [.ref cx]) (gQv X (fun G U ws => F = G ∧ V = U ∧ ∃ cl : Nat, ((cx, oB 23 [.ref cl, .null, .null]) :: Z) = ws)) 1 0 (gA X) := by
  refine Met.g (by decide) (Nat.le_of_ble_eq_true rfl) ?_
  intro p e s m below meth c ls hx hb hr hts hown hlocks hml hin hG hl
  have hl : lv_has ls 1 [(0, .ref cx)] := hl
  refine lv_aload_n hx hb dX25_init_0 rfl (lv_at hl 0 rfl) ?_
  refine W.objInit hx hb hown (hts _ q2317) (hts _ q170) (hts _ q171) rfl (by rw [hml]; exact hl.1) rfl dX25_init_1 (Nat.le_of_ble_eq_true rfl) (Nat.le_of_ble_eq_true rfl) ?_
  refine W.eq (g2 := F0 m 4 ls []) rfl ?_
  refine lv_aload_n hx hb dX25_init_4 rfl (lv_at hl 0 rfl) ?_
  refine lv_iconst (v := zI 0) hx hb dX25_init_5 (by decide +kernel) ?_
  refine g_newq hx hb hown (hts _ q2318) (hG.1.2.1.2.1 "LineRemarks$Line" (by decide)) 6 rfl hG (N := 0) ⟨rfl, by decide⟩ ⟨Nat.le_of_ble_eq_true rfl, Nat.le_of_ble_eq_true rfl⟩ dX25_init_6 (fun cl H (hG : gW X F V ((cl, aR (gT X 6) 0 (fun _ => none)) :: (cx, oB 23 [.null, .null, .null]) :: Z) s H _) => ?_)
  refine g_put (ci := 23) hx hb hts in_X25 tyX25 tyX25_ok nmX25 hown hG 1 rfl rfl 0 (Nat.le_of_ble_eq_true rfl) (hts _ q2319) (fun _ h9 => h9) rfl (tyX25_ok 0 (Nat.le_of_ble_eq_true rfl)) rfl rfl (Nat.le_of_ble_eq_true rfl) dX25_init_9 (fun H locs (hG : gW X F V ((cl, aR (gT X 6) 0 (fun _ => none)) :: (cx, oB 23 [.ref cl, .null, .null]) :: Z) s H locs) => ?_)
  have hG : gW X F V ((cx, oB 23 [.ref cl, .null, .null]) :: Z) s _ _ := hG.drop 0 rfl rfl
  exact g_vret hx hb hr hlocks hG (⟨rfl, rfl, cl, rfl⟩) ⟨Nat.le_of_ble_eq_true rfl, Nat.le_of_ble_eq_true rfl⟩ dX25_init_12

set_option maxHeartbeats 4000000 in
theorem metX23_init {l : Launch} {X : gX} {F : gF} {V : gV} {Z : va_W} {wk wa : Nat} : Met l yX23_init (ws_ yX23_init cX23_init 2 none) ({ frames := 2, cells := 3, slots := 5, locals := 40 }) (gP X F V ((wk, oB 21 [.null, .null, .null, .null, .null, .int (zI 0)]) :: Z) [.ref wk, .ref wa]) (gQv X (fun G U ws => F = G ∧ V = U ∧ ∃ sp cx cl : Nat, ((wk, oB 21 [.ref sp, .ref cx, .ref wa, .null, .null, .int (zI 0)]) :: (sp, oB 22 [.int (zI 0), .int (zI 0)]) :: (cx, oB 23 [.ref cl, .null, .null]) :: Z) = ws)) 3 5 (gA X) := by
  refine Met.g (by decide) (Nat.le_of_ble_eq_true rfl) ?_
  intro p e s m below meth c ls hx hb hr hts hown hlocks hml hin hG hl
  have hl : lv_has ls 2 [(0, .ref wk), (1, .ref wa)] := hl
  refine lv_aload_n hx hb dX23_init_0 rfl (lv_at hl 0 rfl) ?_
  refine W.objInit hx hb hown (hts _ q2285) (hts _ q170) (hts _ q171) rfl (by rw [hml]; exact hl.1) rfl dX23_init_1 (Nat.le_of_ble_eq_true rfl) (Nat.le_of_ble_eq_true rfl) ?_
  refine W.eq (g2 := F0 m 4 ls []) rfl ?_
  refine lv_aload_n hx hb dX23_init_4 rfl (lv_at hl 0 rfl) ?_
  refine g_new (ci := 22) hx hb hts in_X24 tyX24 tyX24_ok hown (hts _ q2286) (hts _ q2287) (hts _ q153) hG rfl (fs := [.int (zI 0), .int (zI 0)]) rfl ⟨Nat.le_of_ble_eq_true rfl, Nat.le_of_ble_eq_true rfl⟩ dX23_init_5 (fun sp H (hG : gW X F V ((sp, oB 22 [.int (zI 0), .int (zI 0)]) :: (wk, oB 21 [.null, .null, .null, .null, .null, .int (zI 0)]) :: Z) s H _) => ?_)
  refine lv_dup hx hb dX23_init_8 rfl ?_
  refine g_cv (va_runI (As := []) (rest := [.ref sp, .ref wk]) ⟨hx, hb, hml, hown, hts⟩ (metX24_init) (cwI 0 hts (lw_meth q2290) rfl rfl rfl (hts _ q153) (hts _ q2288) (hts _ q2289) rfl (by decide +kernel) ⟨Nat.le_of_ble_eq_true rfl, Nat.le_of_ble_eq_true rfl⟩) (g_preS hG) rfl rfl hl.1 rfl (lv_room (Nat.le_of_ble_eq_true rfl)) dX23_init_9 ⟨Nat.le_of_ble_eq_true rfl, Nat.le_of_ble_eq_true rfl⟩) hG (fun F_2 V_3 ws_ H locs hp hG => ?_)
  obtain ⟨rfl, rfl, rfl⟩ := hp
  have hG : gW X F V ((sp, oB 22 [.int (zI 0), .int (zI 0)]) :: (wk, oB 21 [.null, .null, .null, .null, .null, .int (zI 0)]) :: Z) s H locs := hG
  refine g_putF (ci := 21) hx hb hts in_X23 tyX23 tyX23_ok nmX23 hown hin hG 1 rfl rfl 0 (Nat.le_of_ble_eq_true rfl) (hts _ q2330) (fun _ h9 => h9) rfl rfl (tyX23_ok 0 (Nat.le_of_ble_eq_true rfl)) rfl rfl (Nat.le_of_ble_eq_true rfl) dX23_init_12 (fun H locs (hG : gW X F V ((sp, oB 22 [.int (zI 0), .int (zI 0)]) :: (wk, oB 21 [.ref sp, .null, .null, .null, .null, .int (zI 0)]) :: Z) s H locs) => ?_)
  refine lv_aload_n hx hb dX23_init_15 rfl (lv_at hl 0 rfl) ?_
  refine g_new (ci := 23) hx hb hts in_X25 tyX25 tyX25_ok hown (hts _ q2312) (hts _ q2313) (hts _ q154) hG rfl (fs := [.null, .null, .null]) rfl ⟨Nat.le_of_ble_eq_true rfl, Nat.le_of_ble_eq_true rfl⟩ dX23_init_16 (fun cx H (hG : gW X F V ((cx, oB 23 [.null, .null, .null]) :: (sp, oB 22 [.int (zI 0), .int (zI 0)]) :: (wk, oB 21 [.ref sp, .null, .null, .null, .null, .int (zI 0)]) :: Z) s H _) => ?_)
  refine lv_dup hx hb dX23_init_19 rfl ?_
  refine g_cv (va_runI (As := []) (rest := [.ref cx, .ref wk]) ⟨hx, hb, hml, hown, hts⟩ (metX25_init) (cwI 0 hts (lw_meth q2316) rfl rfl rfl (hts _ q154) (hts _ q2314) (hts _ q2315) rfl (by decide +kernel) ⟨Nat.le_of_ble_eq_true rfl, Nat.le_of_ble_eq_true rfl⟩) (g_preS hG) rfl rfl hl.1 rfl (lv_room (Nat.le_of_ble_eq_true rfl)) dX23_init_20 ⟨Nat.le_of_ble_eq_true rfl, Nat.le_of_ble_eq_true rfl⟩) hG (fun F_5 V_6 ws_ H locs hp hG => ?_)
  obtain ⟨rfl, rfl, cl, rfl⟩ := hp
  have hG : gW X F V ((cx, oB 23 [.ref cl, .null, .null]) :: (sp, oB 22 [.int (zI 0), .int (zI 0)]) :: (wk, oB 21 [.ref sp, .null, .null, .null, .null, .int (zI 0)]) :: Z) s H locs := hG
  refine g_putF (ci := 21) hx hb hts in_X23 tyX23 tyX23_ok nmX23 hown hin hG 2 rfl rfl 1 (Nat.le_of_ble_eq_true rfl) (hts _ q2332) (fun _ h9 => h9) rfl rfl (tyX23_ok 1 (Nat.le_of_ble_eq_true rfl)) rfl rfl (Nat.le_of_ble_eq_true rfl) dX23_init_23 (fun H locs (hG : gW X F V ((cx, oB 23 [.ref cl, .null, .null]) :: (sp, oB 22 [.int (zI 0), .int (zI 0)]) :: (wk, oB 21 [.ref sp, .ref cx, .null, .null, .null, .int (zI 0)]) :: Z) s H locs) => ?_)
  refine lv_aload_n hx hb dX23_init_26 rfl (lv_at hl 0 rfl) ?_
  refine lv_aload_n hx hb dX23_init_27 rfl (lv_at hl 1 rfl) ?_
  refine g_putF (ci := 21) hx hb hts in_X23 tyX23 tyX23_ok nmX23 hown hin hG 2 rfl rfl 2 (Nat.le_of_ble_eq_true rfl) (hts _ q2333) (fun _ h9 => h9) rfl rfl (tyX23_ok 2 (Nat.le_of_ble_eq_true rfl)) rfl rfl (Nat.le_of_ble_eq_true rfl) dX23_init_28 (fun H locs (hG : gW X F V ((cx, oB 23 [.ref cl, .null, .null]) :: (sp, oB 22 [.int (zI 0), .int (zI 0)]) :: (wk, oB 21 [.ref sp, .ref cx, .ref wa, .null, .null, .int (zI 0)]) :: Z) s H locs) => ?_)
  have hG : gW X F V ((sp, oB 22 [.int (zI 0), .int (zI 0)]) :: (cx, oB 23 [.ref cl, .null, .null]) :: (wk, oB 21 [.ref sp, .ref cx, .ref wa, .null, .null, .int (zI 0)]) :: Z) s _ _ := hG.pull 1 rfl rfl
  have hG : gW X F V ((wk, oB 21 [.ref sp, .ref cx, .ref wa, .null, .null, .int (zI 0)]) :: (sp, oB 22 [.int (zI 0), .int (zI 0)]) :: (cx, oB 23 [.ref cl, .null, .null]) :: Z) s _ _ := hG.pull 2 rfl rfl
  exact g_vret hx hb hr hlocks hG (⟨rfl, rfl, sp, cx, cl, rfl⟩) ⟨Nat.le_of_ble_eq_true rfl, Nat.le_of_ble_eq_true rfl⟩ dX23_init_31

set_option maxHeartbeats 4000000 in
theorem metX23_begin {l : Launch} {X : gX} {F : gF} {V : gV} {Z : va_W} {wk sp cx wa rm : Nat} {h9 p9 q9 : Int} {v3 v4 : Value} {ra : Nat → Nat} {i9 kd : Nat} {r : Rm} (hrm : isRmk F ra rm kd i9 r) (hkd : kd ≤ 6) : Met l yX23_begin (ws_ yX23_begin cX23_begin 2 none) ({ frames := 1, cells := 0, slots := 0, locals := 22 }) (gP X F V ((wk, oB 21 [.ref sp, .ref cx, .ref wa, v3, v4, .int (zI h9)]) :: (sp, oB 22 [.int (zI p9), .int (zI q9)]) :: Z) [.ref wk, .ref rm]) (gQv X (fun G U ws => F = G ∧ V = U ∧ ((wk, oB 21 [.ref sp, .ref cx, .ref wa, .ref rm, .ref (ra (rOn r)), .int (zI 0)]) :: (sp, oB 22 [.int (zI (rP r : Int)), .int (zI (rQ r : Int))]) :: Z) = ws)) 0 0 (gA X) := by
  refine Met.g (by decide) (Nat.le_of_ble_eq_true rfl) ?_
  intro p e s m below meth c ls hx hb hr hts hown hlocks hml hin hG hl
  have hl : lv_has ls 2 [(0, .ref wk), (1, .ref rm)] := hl
  refine lv_aload_n hx hb dX23_begin_0 rfl (lv_at hl 0 rfl) ?_
  refine lv_aload_n hx hb dX23_begin_1 rfl (lv_at hl 1 rfl) ?_
  refine g_put (ci := 21) hx hb hts in_X23 tyX23 tyX23_ok nmX23 hown hG 0 rfl rfl 3 (Nat.le_of_ble_eq_true rfl) (hts _ q2334) (fun _ h9 => h9) rfl (tyX23_ok 3 (Nat.le_of_ble_eq_true rfl)) rfl rfl (Nat.le_of_ble_eq_true rfl) dX23_begin_2 (fun H locs (hG : gW X F V ((wk, oB 21 [.ref sp, .ref cx, .ref wa, .ref rm, v4, .int (zI h9)]) :: (sp, oB 22 [.int (zI p9), .int (zI q9)]) :: Z) s H locs) => ?_)
  refine lv_aload_n hx hb dX23_begin_5 rfl (lv_at hl 0 rfl) ?_
  refine lv_aload_n hx hb dX23_begin_6 rfl (lv_at hl 1 rfl) ?_
  refine g_rmget hx hb hkd hts hown hG (hG.fz hrm) 2 (by decide) (hts _ q2081) rfl dX23_begin_7 ?_
  refine g_put (ci := 21) hx hb hts in_X23 tyX23 tyX23_ok nmX23 hown hG 0 rfl rfl 4 (Nat.le_of_ble_eq_true rfl) (hts _ q2335) (fun _ h9 => h9) rfl (tyX23_ok 4 (Nat.le_of_ble_eq_true rfl)) rfl rfl (Nat.le_of_ble_eq_true rfl) dX23_begin_10 (fun H locs (hG : gW X F V ((wk, oB 21 [.ref sp, .ref cx, .ref wa, .ref rm, .ref (ra (rOn r)), .int (zI h9)]) :: (sp, oB 22 [.int (zI p9), .int (zI q9)]) :: Z) s H locs) => ?_)
  refine lv_aload_n hx hb dX23_begin_13 rfl (lv_at hl 0 rfl) ?_
  refine g_get (ci := 21) hx hb hts in_X23 hown hG (hG.at 0 rfl) rfl 0 (Nat.le_of_ble_eq_true rfl) (hts _ q2330) (fun _ h9 => h9) rfl dX23_begin_14 ?_
  refine lv_aload_n hx hb dX23_begin_17 rfl (lv_at hl 1 rfl) ?_
  refine g_rmget hx hb hkd hts hown hG (hG.fz hrm) 3 (by decide) (hts _ q2086) rfl dX23_begin_18 ?_
  refine lv_aload_n hx hb dX23_begin_21 rfl (lv_at hl 1 rfl) ?_
  refine g_rmget hx hb hkd hts hown hG (hG.fz hrm) 4 (by decide) (hts _ q2092) rfl dX23_begin_22 ?_
  have hG : gW X F V ((sp, oB 22 [.int (zI p9), .int (zI q9)]) :: (wk, oB 21 [.ref sp, .ref cx, .ref wa, .ref rm, .ref (ra (rOn r)), .int (zI h9)]) :: Z) s _ _ := hG.pull 1 rfl rfl
  refine g_cv (va_runV (As := [.int (zI (rP r : Int)), .int (zI (rQ r : Int))]) (rest := []) ⟨hx, hb, hml, hown, hts⟩ (metX24_is) (cwV 2 hts (lw_V q2359 q2360 q2361 q153 q2362) rfl rfl rfl (by decide +kernel) ⟨Nat.le_of_ble_eq_true rfl, Nat.le_of_ble_eq_true rfl⟩) (g_preV hG (g_recv hG (hG.at 0 rfl) (ci := 22) rfl)) rfl rfl hl.1 rfl (lv_room (Nat.le_of_ble_eq_true rfl)) dX23_begin_25 ⟨Nat.le_of_ble_eq_true rfl, Nat.le_of_ble_eq_true rfl⟩) hG (fun F_2 V_3 ws_ H locs hp hG => ?_)
  obtain ⟨rfl, rfl, rfl⟩ := hp
  have hG : gW X F V ((sp, oB 22 [.int (zI (rP r : Int)), .int (zI (rQ r : Int))]) :: (wk, oB 21 [.ref sp, .ref cx, .ref wa, .ref rm, .ref (ra (rOn r)), .int (zI h9)]) :: Z) s H locs := hG
  refine lv_aload_n hx hb dX23_begin_28 rfl (lv_at hl 0 rfl) ?_
  refine lv_iconst (v := zI 0) hx hb dX23_begin_29 (by decide +kernel) ?_
  refine g_put (ci := 21) hx hb hts in_X23 tyX23 tyX23_ok nmX23 hown hG 1 rfl rfl 5 (Nat.le_of_ble_eq_true rfl) (hts _ q2336) (fun _ h9 => h9) rfl (tyX23_ok 5 (Nat.le_of_ble_eq_true rfl)) rfl rfl (Nat.le_of_ble_eq_true rfl) dX23_begin_30 (fun H locs (hG : gW X F V ((sp, oB 22 [.int (zI (rP r : Int)), .int (zI (rQ r : Int))]) :: (wk, oB 21 [.ref sp, .ref cx, .ref wa, .ref rm, .ref (ra (rOn r)), .int (zI 0)]) :: Z) s H locs) => ?_)
  have hG : gW X F V ((wk, oB 21 [.ref sp, .ref cx, .ref wa, .ref rm, .ref (ra (rOn r)), .int (zI 0)]) :: (sp, oB 22 [.int (zI (rP r : Int)), .int (zI (rQ r : Int))]) :: Z) s _ _ := hG.pull 1 rfl rfl
  exact g_vret hx hb hr hlocks hG (⟨rfl, rfl, rfl⟩) ⟨Nat.le_of_ble_eq_true rfl, Nat.le_of_ble_eq_true rfl⟩ dX23_begin_33

set_option maxHeartbeats 4000000 in
theorem metX23_step {l : Launch} {X : gX} {F : gF} {V : gV} {Z : va_W} {b f wk sp cx wa rm t9 cl : Nat} {h9 p9 q9 : Int} {al be : Option Nat} {k : Wk} {w : aW} {ra la : Nat → Nat} (hR : xRv X F w ra la) (hK : wOK w) (hk : xWk X F w k h9 p9 q9 t9 cl al be) (hb9 : b < wN w) (hf : wFo w b = some f) (hfk : kHow k ≠ 3 → kL k = f) {rvA rkA stA : Nat} (hw : V 4 = some (wa, xwE w rvA rkA stA)) {i9 kd : Nat} {r : Rm} (hrm : isRmk F ra rm kd i9 r) (hkd : kd ≤ 6) (hby9 : rBy r ≤ 9) : Met l yX23_step (ws_ yX23_step cX23_step 2 none) ({ frames := 7, cells := 34, slots := 814, locals := 158 }) (gP X F V ((wk, oB 21 [.ref sp, .ref cx, .ref wa, .ref rm, .ref (ra t9), .int (zI h9)]) :: (sp, oB 22 [.int (zI p9), .int (zI q9)]) :: (cx, oB 23 [.ref cl, va_rf al, va_rf be]) :: Z) [.ref wk, .ref (ra b)]) (gQv X (fun G U ws => gLe F G ∧ V = U ∧ ∃ (h8 p8 q8 : Int) (cl9 : Nat) (al9 be9 : Option Nat), xWk X G w (wkStep w kd (rBy r) b k) h8 p8 q8 b cl9 al9 be9 ∧ ((wk, oB 21 [.ref sp, .ref cx, .ref wa, .ref rm, .ref (ra b), .int (zI h8)]) :: (sp, oB 22 [.int (zI p8), .int (zI q8)]) :: (cx, oB 23 [.ref cl9, va_rf al9, va_rf be9]) :: Z) = ws)) 34 814 (gA X) := by
  refine Met.g (by decide) (Nat.le_of_ble_eq_true rfl) ?_
  intro p e s m below meth c ls hx hb hr hts hown hlocks hml hin hG hl
  have hl : lv_has ls 2 [(0, .ref wk), (1, .ref (ra b))] := hl
  have hkA := hk
  have hk4 := hk.2.2.1
  have hk1 := hk.1
  have hk5 := hk.2.2.2.1
  have hb24 := (hK.tx hb9).1
  have hfl := hK.fo b f hf
  have hf24 := (hK.tx (r := f) (by omega)).1
  have hru := hK.ru
  have hcm := cmR_f hf
  refine lv_aload_n hx hb dX23_step_0 rfl (lv_at hl 0 rfl) ?_
  refine g_cv (va_runV (As := []) (rest := []) ⟨hx, hb, hml, hown, hts⟩ (metX23_keep hR hK hk) (cwV 0 hts (lw_V q2374 q2375 q2376 q152 q2377) rfl rfl rfl (by decide +kernel) ⟨Nat.le_of_ble_eq_true rfl, Nat.le_of_ble_eq_true rfl⟩) (g_preV hG (g_recv hG (hG.at 0 rfl) (ci := 21) rfl)) rfl rfl hl.1 rfl (lv_room (Nat.le_of_ble_eq_true rfl)) dX23_step_1 ⟨by show _ ≤ 34; omega, by show _ ≤ 814; omega⟩) hG (fun G1 V_2 ws_ H locs hp hG => ?_)
  obtain ⟨hle_G1, rfl, cl9, al9, be9, hcx9, rfl⟩ := hp
  have hG : gW X G1 V ((wk, oB 21 [.ref sp, .ref cx, .ref wa, .ref rm, .ref (ra t9), .int (zI h9)]) :: (sp, oB 22 [.int (zI p9), .int (zI q9)]) :: (cx, oB 23 [.ref cl9, va_rf al9, va_rf be9]) :: Z) s H locs := hG
  refine lv_aload_n hx hb dX23_step_4 rfl (lv_at hl 0 rfl) ?_
  refine g_ci (va_runV (As := []) (rest := []) ⟨hx, hb, hml, hown, hts⟩ (metX23_isLost (h9 := h9) (by omega)) (cwV 0 hts (lw_V q2378 q2379 q2380 q152 q2381) rfl rfl rfl (by decide +kernel) ⟨Nat.le_of_ble_eq_true rfl, Nat.le_of_ble_eq_true rfl⟩) (g_preV hG (g_recv hG (hG.at 0 rfl) (ci := 21) rfl)) rfl rfl hl.1 rfl (lv_room (Nat.le_of_ble_eq_true rfl)) dX23_step_5 ⟨by show _ ≤ 34; omega, by show _ ≤ 814; omega⟩) hG (fun r_3 F_4 V_5 ws_ H locs hp hG => ?_)
  obtain ⟨rfl, rfl, rfl, rfl⟩ := hp
  have hG : gW X G1 V ((wk, oB 21 [.ref sp, .ref cx, .ref wa, .ref rm, .ref (ra t9), .int (zI h9)]) :: (sp, oB 22 [.int (zI p9), .int (zI q9)]) :: (cx, oB 23 [.ref cl9, va_rf al9, va_rf be9]) :: Z) s H locs := hG
  by_cases h3 : h9 = 3
  · refine g_topz (y := 1) (if_pos h3) ?_
    refine g_ne (tgt := 44) hx hb dX23_step_8 (by decide) (by decide) (fun h1 => ?_) (fun h1 => ?_)
    · refine lv_aload_n hx hb dX23_step_44 rfl (lv_at hl 0 rfl) ?_
      refine lv_aload_n hx hb dX23_step_45 rfl (lv_at hl 1 rfl) ?_
      refine g_cv (va_runV (As := [.ref (ra b)]) (rest := []) ⟨hx, hb, hml, hown, hts⟩ (metX23_comesBack (hR.mono hle_G1) hK hb9 hk4 (hcx9) hw) (cwV 1 hts (lw_V q2441 q2443 qs33 q152 q2444) rfl rfl rfl (by decide +kernel) ⟨Nat.le_of_ble_eq_true rfl, Nat.le_of_ble_eq_true rfl⟩) (g_preV hG (g_recv hG (hG.at 0 rfl) (ci := 21) rfl)) rfl rfl hl.1 rfl (lv_room (Nat.le_of_ble_eq_true rfl)) dX23_step_46 ⟨by show _ ≤ 34; omega, by show _ ≤ 814; omega⟩) hG (fun F_7 V_8 ws_ H locs hp hG => ?_)
      obtain ⟨rfl, rfl, h8, p8, q8, hbk, rfl⟩ := hp
      have hG : gW X G1 V ((wk, oB 21 [.ref sp, .ref cx, .ref wa, .ref rm, .ref (ra t9), .int (zI h8)]) :: (sp, oB 22 [.int (zI p8), .int (zI q8)]) :: (cx, oB 23 [.ref cl9, va_rf al9, va_rf be9]) :: Z) s H locs := hG
      refine lv_aload_n hx hb dX23_step_49 rfl (lv_at hl 0 rfl) ?_
      refine lv_aload_n hx hb dX23_step_50 rfl (lv_at hl 1 rfl) ?_
      refine g_put (ci := 21) hx hb hts in_X23 tyX23 tyX23_ok nmX23 hown hG 0 rfl rfl 4 (Nat.le_of_ble_eq_true rfl) (hts _ q2335) (fun _ h9 => h9) rfl (tyX23_ok 4 (Nat.le_of_ble_eq_true rfl)) rfl rfl (Nat.le_of_ble_eq_true rfl) dX23_step_51 (fun H locs (hG : gW X G1 V ((wk, oB 21 [.ref sp, .ref cx, .ref wa, .ref rm, .ref (ra b), .int (zI h8)]) :: (sp, oB 22 [.int (zI p8), .int (zI q8)]) :: (cx, oB 23 [.ref cl9, va_rf al9, va_rf be9]) :: Z) s H locs) => ?_)
      exact g_vret hx hb hr hlocks hG (⟨hle_G1, rfl, h8, p8, q8, cl9, al9, be9, by rw [wkStep_b (Or.inl (by omega))]; exact hbk.wk hb9 hk4 (hcx9), rfl⟩) ⟨by show _ ≤ 34; omega, by show _ ≤ 814; omega⟩ dX23_step_54
    · exfalso; omega
  · refine g_topz (y := 0) (if_neg h3) ?_
    refine g_ne (tgt := 44) hx hb dX23_step_8 (by decide) (by decide) (fun h1 => ?_) (fun h1 => ?_)
    · exfalso; omega
    · obtain ⟨e1, e2, e3, e4, e5⟩ := hk5 (by omega)
      subst e1
      subst e2
      subst e3
      have hkf := hfk (by omega)
      have hpq9 : kP k ≤ kQ k ∧ kQ k < (wTx w f).length := by rw [e4, e5, ← hkf]; exact hk4.2
      have hR1 := hR.mono hle_G1
      refine lv_aload_n hx hb dX23_step_11 rfl (lv_at hl 0 rfl) ?_
      refine g_get (ci := 21) hx hb hts in_X23 hown hG (hG.at 0 rfl) rfl 3 (Nat.le_of_ble_eq_true rfl) (hts _ q2334) (fun _ h9 => h9) rfl dX23_step_12 ?_
      refine lv_aload_n hx hb dX23_step_15 rfl (lv_at hl 0 rfl) ?_
      refine g_get (ci := 21) hx hb hts in_X23 hown hG (hG.at 0 rfl) rfl 0 (Nat.le_of_ble_eq_true rfl) (hts _ q2330) (fun _ h9 => h9) rfl dX23_step_16 ?_
      refine lv_aload_n hx hb dX23_step_19 rfl (lv_at hl 1 rfl) ?_
      refine lv_aload_n hx hb dX23_step_20 rfl (lv_at hl 0 rfl) ?_
      refine g_get (ci := 21) hx hb hts in_X23 hown hG (hG.at 0 rfl) rfl 2 (Nat.le_of_ble_eq_true rfl) (hts _ q2333) (fun _ h9 => h9) rfl dX23_step_21 ?_
      refine g_get (ci := 2) hx hb hts in_X2 hown hG (hG.vo hw) rfl 2 (Nat.le_of_ble_eq_true rfl) (hts _ q338) (fun _ h9 => h9) rfl dX23_step_24 ?_
      refine g_cr (va_runV (As := [.int (zI (wRun w : Int))]) (rest := [.ref sp, .ref rm]) ⟨hx, hb, hml, hown, hts⟩ (metX14_fromFormer hR1 hK hb9 hf ⟨hru.1, hru.2.1⟩) (cwV 1 hts (lw_V q2392 q2030 q2031 q140 q2032) rfl rfl rfl (by decide +kernel) ⟨Nat.le_of_ble_eq_true rfl, Nat.le_of_ble_eq_true rfl⟩) (g_preV hG (rev_recv hG (hR1 b hb9).1)) rfl rfl hl.1 rfl (lv_room (Nat.le_of_ble_eq_true rfl)) dX23_step_27 ⟨by show _ ≤ 34; omega, by show _ ≤ 814; omega⟩) hG (fun r_9 G2 V_10 ws_ H locs hp hG => ?_)
      obtain ⟨hle_G2, rfl, hmt, rfl⟩ := hp
      have hG : gW X G2 V ((wk, oB 21 [.ref sp, .ref cx, .ref wa, .ref rm, .ref (ra (kL k)), .int (zI h9)]) :: (sp, oB 22 [.int (zI (kP k : Int)), .int (zI (kQ k : Int))]) :: (cx, oB 23 [.ref cl9, va_rf al9, va_rf be9]) :: Z) s H locs := hG
      obtain rfl | rfl | rfl | rfl | rfl | rfl | rfl : kd = 0 ∨ kd = 1 ∨ kd = 2 ∨ kd = 3 ∨ kd = 4 ∨ kd = 5 ∨ kd = 6 := by omega
      · have hxy : ∀ x y, goesK (mPlace (wTx w f) (wTx w b) (wRun w)) (wTx w b).length 0 (rBy r) (kP k) (kQ k) = some (x, y) → x ≤ y ∧ y < (wTx w b).length := fun x y h => goesK_lt (fun i x h => (mPlace_lt h).2) h
        have hG : gW X G2 V ((sp, oB 22 [.int (zI (kP k : Int)), .int (zI (kQ k : Int))]) :: (wk, oB 21 [.ref sp, .ref cx, .ref wa, .ref rm, .ref (ra (kL k)), .int (zI h9)]) :: (cx, oB 23 [.ref cl9, va_rf al9, va_rf be9]) :: Z) s _ _ := hG.pull 1 rfl rfl
        refine g_ci (va_runV (As := [.ref sp, .ref r_9]) (rest := []) ⟨hx, hb, hml, hown, hts⟩ (metX16_follows (pp := kP k) (qq := kQ k) hmt ⟨hf24, hb24⟩ hpq9) (cwV 2 hts (lw_V q2393 q2394 q2395 q145 q2406) rfl rfl rfl (by decide +kernel) ⟨Nat.le_of_ble_eq_true rfl, Nat.le_of_ble_eq_true rfl⟩) (g_preV hG (g_recv hG (hG.fz (show G2.1 rm = some (oB (14 + 0) _) from hle_G2.1 _ _ (hle_G1.1 _ _ hrm))) (ci := 14) rfl)) rfl rfl hl.1 rfl (lv_room (Nat.le_of_ble_eq_true rfl)) dX23_step_30 ⟨by show _ ≤ 34; omega, by show _ ≤ 814; omega⟩) hG (fun r_11 F_12 V_13 ws_ H locs hp hG => ?_)
        rcases hp with ⟨rfl, rfl, ⟨hf9, rfl, rfl⟩ | ⟨x, y, hf9, rfl, rfl⟩⟩
        · have hG : gW X G2 V ((sp, oB 22 [.int (zI (kP k : Int)), .int (zI (kQ k : Int))]) :: (wk, oB 21 [.ref sp, .ref cx, .ref wa, .ref rm, .ref (ra (kL k)), .int (zI h9)]) :: (cx, oB 23 [.ref cl9, va_rf al9, va_rf be9]) :: Z) s H locs := hG
          refine g_eq (tgt := 44) hx hb dX23_step_33 (by decide) (by decide) (fun h2 => ?_) (fun h2 => ?_)
          · have hG : gW X G2 V ((cx, oB 23 [.ref cl9, va_rf al9, va_rf be9]) :: (sp, oB 22 [.int (zI (kP k : Int)), .int (zI (kQ k : Int))]) :: (wk, oB 21 [.ref sp, .ref cx, .ref wa, .ref rm, .ref (ra (kL k)), .int (zI h9)]) :: Z) s _ _ := hG.pull 2 rfl rfl
            have hG : gW X G2 V ((sp, oB 22 [.int (zI (kP k : Int)), .int (zI (kQ k : Int))]) :: (cx, oB 23 [.ref cl9, va_rf al9, va_rf be9]) :: (wk, oB 21 [.ref sp, .ref cx, .ref wa, .ref rm, .ref (ra (kL k)), .int (zI h9)]) :: Z) s _ _ := hG.pull 1 rfl rfl
            have hG : gW X G2 V ((wk, oB 21 [.ref sp, .ref cx, .ref wa, .ref rm, .ref (ra (kL k)), .int (zI h9)]) :: (sp, oB 22 [.int (zI (kP k : Int)), .int (zI (kQ k : Int))]) :: (cx, oB 23 [.ref cl9, va_rf al9, va_rf be9]) :: Z) s _ _ := hG.pull 2 rfl rfl
            refine lv_aload_n hx hb dX23_step_44 rfl (lv_at hl 0 rfl) ?_
            refine lv_aload_n hx hb dX23_step_45 rfl (lv_at hl 1 rfl) ?_
            refine g_cv (va_runV (As := [.ref (ra b)]) (rest := []) ⟨hx, hb, hml, hown, hts⟩ (metX23_comesBack (hR.mono (hle_G1.tr hle_G2)) hK hb9 hk4 (hcx9.mono hle_G2) hw) (cwV 1 hts (lw_V q2441 q2443 qs33 q152 q2444) rfl rfl rfl (by decide +kernel) ⟨Nat.le_of_ble_eq_true rfl, Nat.le_of_ble_eq_true rfl⟩) (g_preV hG (g_recv hG (hG.at 0 rfl) (ci := 21) rfl)) rfl rfl hl.1 rfl (lv_room (Nat.le_of_ble_eq_true rfl)) dX23_step_46 ⟨by show _ ≤ 34; omega, by show _ ≤ 814; omega⟩) hG (fun F_15 V_16 ws_ H locs hp hG => ?_)
            obtain ⟨rfl, rfl, h8, p8, q8, hbk, rfl⟩ := hp
            have hG : gW X G2 V ((wk, oB 21 [.ref sp, .ref cx, .ref wa, .ref rm, .ref (ra (kL k)), .int (zI h8)]) :: (sp, oB 22 [.int (zI p8), .int (zI q8)]) :: (cx, oB 23 [.ref cl9, va_rf al9, va_rf be9]) :: Z) s H locs := hG
            refine lv_aload_n hx hb dX23_step_49 rfl (lv_at hl 0 rfl) ?_
            refine lv_aload_n hx hb dX23_step_50 rfl (lv_at hl 1 rfl) ?_
            refine g_put (ci := 21) hx hb hts in_X23 tyX23 tyX23_ok nmX23 hown hG 0 rfl rfl 4 (Nat.le_of_ble_eq_true rfl) (hts _ q2335) (fun _ h9 => h9) rfl (tyX23_ok 4 (Nat.le_of_ble_eq_true rfl)) rfl rfl (Nat.le_of_ble_eq_true rfl) dX23_step_51 (fun H locs (hG : gW X G2 V ((wk, oB 21 [.ref sp, .ref cx, .ref wa, .ref rm, .ref (ra b), .int (zI h8)]) :: (sp, oB 22 [.int (zI p8), .int (zI q8)]) :: (cx, oB 23 [.ref cl9, va_rf al9, va_rf be9]) :: Z) s H locs) => ?_)
            exact g_vret hx hb hr hlocks hG (⟨(hle_G1.tr hle_G2), rfl, h8, p8, q8, cl9, al9, be9, by rw [wkStep_b (Or.inr (by rw [hcm]; exact goesK_i (by decide) (by decide) (by decide) hf9))]; exact hbk.wk hb9 hk4 (hcx9.mono hle_G2), rfl⟩) ⟨by show _ ≤ 34; omega, by show _ ≤ 814; omega⟩ dX23_step_54
          · exfalso; omega
        · have hG : gW X G2 V ((sp, oB 22 [.int (zI (x : Int)), .int (zI (y : Int))]) :: (wk, oB 21 [.ref sp, .ref cx, .ref wa, .ref rm, .ref (ra (kL k)), .int (zI h9)]) :: (cx, oB 23 [.ref cl9, va_rf al9, va_rf be9]) :: Z) s H locs := hG
          refine g_eq (tgt := 44) hx hb dX23_step_33 (by decide) (by decide) (fun h2 => ?_) (fun h2 => ?_)
          · exfalso; omega
          · refine lv_aload_n hx hb dX23_step_36 rfl (lv_at hl 0 rfl) ?_
            refine lv_iconst (v := zI 1) hx hb dX23_step_37 (by decide +kernel) ?_
            refine g_put (ci := 21) hx hb hts in_X23 tyX23 tyX23_ok nmX23 hown hG 1 rfl rfl 5 (Nat.le_of_ble_eq_true rfl) (hts _ q2336) (fun _ h9 => h9) rfl (tyX23_ok 5 (Nat.le_of_ble_eq_true rfl)) rfl rfl (Nat.le_of_ble_eq_true rfl) dX23_step_38 (fun H locs (hG : gW X G2 V ((sp, oB 22 [.int (zI (x : Int)), .int (zI (y : Int))]) :: (wk, oB 21 [.ref sp, .ref cx, .ref wa, .ref rm, .ref (ra (kL k)), .int (zI 1)]) :: (cx, oB 23 [.ref cl9, va_rf al9, va_rf be9]) :: Z) s H locs) => ?_)
            refine lv_goto (tgt := 49) hx hb dX23_step_41 (by decide) ?_
            refine lv_aload_n hx hb dX23_step_49 rfl (lv_at hl 0 rfl) ?_
            refine lv_aload_n hx hb dX23_step_50 rfl (lv_at hl 1 rfl) ?_
            refine g_put (ci := 21) hx hb hts in_X23 tyX23 tyX23_ok nmX23 hown hG 1 rfl rfl 4 (Nat.le_of_ble_eq_true rfl) (hts _ q2335) (fun _ h9 => h9) rfl (tyX23_ok 4 (Nat.le_of_ble_eq_true rfl)) rfl rfl (Nat.le_of_ble_eq_true rfl) dX23_step_51 (fun H locs (hG : gW X G2 V ((sp, oB 22 [.int (zI (x : Int)), .int (zI (y : Int))]) :: (wk, oB 21 [.ref sp, .ref cx, .ref wa, .ref rm, .ref (ra b), .int (zI 1)]) :: (cx, oB 23 [.ref cl9, va_rf al9, va_rf be9]) :: Z) s H locs) => ?_)
            have hG : gW X G2 V ((cx, oB 23 [.ref cl9, va_rf al9, va_rf be9]) :: (sp, oB 22 [.int (zI (x : Int)), .int (zI (y : Int))]) :: (wk, oB 21 [.ref sp, .ref cx, .ref wa, .ref rm, .ref (ra b), .int (zI 1)]) :: Z) s _ _ := hG.pull 2 rfl rfl
            have hG : gW X G2 V ((sp, oB 22 [.int (zI (x : Int)), .int (zI (y : Int))]) :: (cx, oB 23 [.ref cl9, va_rf al9, va_rf be9]) :: (wk, oB 21 [.ref sp, .ref cx, .ref wa, .ref rm, .ref (ra b), .int (zI 1)]) :: Z) s _ _ := hG.pull 1 rfl rfl
            have hG : gW X G2 V ((wk, oB 21 [.ref sp, .ref cx, .ref wa, .ref rm, .ref (ra b), .int (zI 1)]) :: (sp, oB 22 [.int (zI (x : Int)), .int (zI (y : Int))]) :: (cx, oB 23 [.ref cl9, va_rf al9, va_rf be9]) :: Z) s _ _ := hG.pull 2 rfl rfl
            exact g_vret hx hb hr hlocks hG (⟨(hle_G1.tr hle_G2), rfl, 1, ((x : Nat) : Int), ((y : Nat) : Int), cl9, al9, be9, xWk_to (o := 1) (wkStep_1 (by omega) (by rw [hcm]; exact (goesK_0 hf9))) (by decide) hb9 (hxy _ _ (goesK_0 hf9)), rfl⟩) ⟨by show _ ≤ 34; omega, by show _ ≤ 814; omega⟩ dX23_step_54
      · have hxy : ∀ x y, goesK (mPlace (wTx w f) (wTx w b) (wRun w)) (wTx w b).length 1 (rBy r) (kP k) (kQ k) = some (x, y) → x ≤ y ∧ y < (wTx w b).length := fun x y h => goesK_lt (fun i x h => (mPlace_lt h).2) h
        have hG : gW X G2 V ((sp, oB 22 [.int (zI (kP k : Int)), .int (zI (kQ k : Int))]) :: (wk, oB 21 [.ref sp, .ref cx, .ref wa, .ref rm, .ref (ra (kL k)), .int (zI h9)]) :: (cx, oB 23 [.ref cl9, va_rf al9, va_rf be9]) :: Z) s _ _ := hG.pull 1 rfl rfl
        refine g_ci (va_runU (C := "LineRemarks$Point") (As := [.ref sp, .ref r_9]) (rest := []) ⟨hx, hb, hml, hown, hts⟩ (metX17_follows (pp := kP k) (qq := kQ k) hmt ⟨hf24, hb24⟩ hpq9 (show G2.1 rm = some (oB 15 _) from hle_G2.1 _ _ (hle_G1.1 _ _ hrm)) rfl) (va_cwO 2 hts (lw_O q2393 q2396 q2394 q2434 q2423 q146 q2424) rfl rfl rfl q2406 (by decide +kernel) ⟨Nat.le_of_ble_eq_true rfl, Nat.le_of_ble_eq_true rfl⟩) (g_preV hG (g_recv hG (hG.fz (show G2.1 rm = some (oB (14 + 1) _) from hle_G2.1 _ _ (hle_G1.1 _ _ hrm))) (ci := 15) rfl)) rfl rfl hl.1 rfl (lv_room (Nat.le_of_ble_eq_true rfl)) dX23_step_30 ⟨by show _ ≤ 34; omega, by show _ ≤ 814; omega⟩) hG (fun r_17 F_18 V_19 ws_ H locs hp hG => ?_)
        rcases hp with ⟨rfl, rfl, ⟨hf9, rfl, rfl⟩ | ⟨x, hf9, rfl, rfl⟩⟩
        · have hG : gW X G2 V ((sp, oB 22 [.int (zI (kP k : Int)), .int (zI (kP k : Int))]) :: (wk, oB 21 [.ref sp, .ref cx, .ref wa, .ref rm, .ref (ra (kL k)), .int (zI h9)]) :: (cx, oB 23 [.ref cl9, va_rf al9, va_rf be9]) :: Z) s H locs := hG
          refine g_eq (tgt := 44) hx hb dX23_step_33 (by decide) (by decide) (fun h2 => ?_) (fun h2 => ?_)
          · have hG : gW X G2 V ((cx, oB 23 [.ref cl9, va_rf al9, va_rf be9]) :: (sp, oB 22 [.int (zI (kP k : Int)), .int (zI (kP k : Int))]) :: (wk, oB 21 [.ref sp, .ref cx, .ref wa, .ref rm, .ref (ra (kL k)), .int (zI h9)]) :: Z) s _ _ := hG.pull 2 rfl rfl
            have hG : gW X G2 V ((sp, oB 22 [.int (zI (kP k : Int)), .int (zI (kP k : Int))]) :: (cx, oB 23 [.ref cl9, va_rf al9, va_rf be9]) :: (wk, oB 21 [.ref sp, .ref cx, .ref wa, .ref rm, .ref (ra (kL k)), .int (zI h9)]) :: Z) s _ _ := hG.pull 1 rfl rfl
            have hG : gW X G2 V ((wk, oB 21 [.ref sp, .ref cx, .ref wa, .ref rm, .ref (ra (kL k)), .int (zI h9)]) :: (sp, oB 22 [.int (zI (kP k : Int)), .int (zI (kP k : Int))]) :: (cx, oB 23 [.ref cl9, va_rf al9, va_rf be9]) :: Z) s _ _ := hG.pull 2 rfl rfl
            refine lv_aload_n hx hb dX23_step_44 rfl (lv_at hl 0 rfl) ?_
            refine lv_aload_n hx hb dX23_step_45 rfl (lv_at hl 1 rfl) ?_
            refine g_cv (va_runV (As := [.ref (ra b)]) (rest := []) ⟨hx, hb, hml, hown, hts⟩ (metX23_comesBack (hR.mono (hle_G1.tr hle_G2)) hK hb9 hk4 (hcx9.mono hle_G2) hw) (cwV 1 hts (lw_V q2441 q2443 qs33 q152 q2444) rfl rfl rfl (by decide +kernel) ⟨Nat.le_of_ble_eq_true rfl, Nat.le_of_ble_eq_true rfl⟩) (g_preV hG (g_recv hG (hG.at 0 rfl) (ci := 21) rfl)) rfl rfl hl.1 rfl (lv_room (Nat.le_of_ble_eq_true rfl)) dX23_step_46 ⟨by show _ ≤ 34; omega, by show _ ≤ 814; omega⟩) hG (fun F_21 V_22 ws_ H locs hp hG => ?_)
            obtain ⟨rfl, rfl, h8, p8, q8, hbk, rfl⟩ := hp
            have hG : gW X G2 V ((wk, oB 21 [.ref sp, .ref cx, .ref wa, .ref rm, .ref (ra (kL k)), .int (zI h8)]) :: (sp, oB 22 [.int (zI p8), .int (zI q8)]) :: (cx, oB 23 [.ref cl9, va_rf al9, va_rf be9]) :: Z) s H locs := hG
            refine lv_aload_n hx hb dX23_step_49 rfl (lv_at hl 0 rfl) ?_
            refine lv_aload_n hx hb dX23_step_50 rfl (lv_at hl 1 rfl) ?_
            refine g_put (ci := 21) hx hb hts in_X23 tyX23 tyX23_ok nmX23 hown hG 0 rfl rfl 4 (Nat.le_of_ble_eq_true rfl) (hts _ q2335) (fun _ h9 => h9) rfl (tyX23_ok 4 (Nat.le_of_ble_eq_true rfl)) rfl rfl (Nat.le_of_ble_eq_true rfl) dX23_step_51 (fun H locs (hG : gW X G2 V ((wk, oB 21 [.ref sp, .ref cx, .ref wa, .ref rm, .ref (ra b), .int (zI h8)]) :: (sp, oB 22 [.int (zI p8), .int (zI q8)]) :: (cx, oB 23 [.ref cl9, va_rf al9, va_rf be9]) :: Z) s H locs) => ?_)
            exact g_vret hx hb hr hlocks hG (⟨(hle_G1.tr hle_G2), rfl, h8, p8, q8, cl9, al9, be9, by rw [wkStep_b (Or.inr (by rw [hcm]; exact goesK_1n hf9))]; exact hbk.wk hb9 hk4 (hcx9.mono hle_G2), rfl⟩) ⟨by show _ ≤ 34; omega, by show _ ≤ 814; omega⟩ dX23_step_54
          · exfalso; omega
        · have hG : gW X G2 V ((sp, oB 22 [.int (zI (x : Int)), .int (zI (x : Int))]) :: (wk, oB 21 [.ref sp, .ref cx, .ref wa, .ref rm, .ref (ra (kL k)), .int (zI h9)]) :: (cx, oB 23 [.ref cl9, va_rf al9, va_rf be9]) :: Z) s H locs := hG
          refine g_eq (tgt := 44) hx hb dX23_step_33 (by decide) (by decide) (fun h2 => ?_) (fun h2 => ?_)
          · exfalso; omega
          · refine lv_aload_n hx hb dX23_step_36 rfl (lv_at hl 0 rfl) ?_
            refine lv_iconst (v := zI 1) hx hb dX23_step_37 (by decide +kernel) ?_
            refine g_put (ci := 21) hx hb hts in_X23 tyX23 tyX23_ok nmX23 hown hG 1 rfl rfl 5 (Nat.le_of_ble_eq_true rfl) (hts _ q2336) (fun _ h9 => h9) rfl (tyX23_ok 5 (Nat.le_of_ble_eq_true rfl)) rfl rfl (Nat.le_of_ble_eq_true rfl) dX23_step_38 (fun H locs (hG : gW X G2 V ((sp, oB 22 [.int (zI (x : Int)), .int (zI (x : Int))]) :: (wk, oB 21 [.ref sp, .ref cx, .ref wa, .ref rm, .ref (ra (kL k)), .int (zI 1)]) :: (cx, oB 23 [.ref cl9, va_rf al9, va_rf be9]) :: Z) s H locs) => ?_)
            refine lv_goto (tgt := 49) hx hb dX23_step_41 (by decide) ?_
            refine lv_aload_n hx hb dX23_step_49 rfl (lv_at hl 0 rfl) ?_
            refine lv_aload_n hx hb dX23_step_50 rfl (lv_at hl 1 rfl) ?_
            refine g_put (ci := 21) hx hb hts in_X23 tyX23 tyX23_ok nmX23 hown hG 1 rfl rfl 4 (Nat.le_of_ble_eq_true rfl) (hts _ q2335) (fun _ h9 => h9) rfl (tyX23_ok 4 (Nat.le_of_ble_eq_true rfl)) rfl rfl (Nat.le_of_ble_eq_true rfl) dX23_step_51 (fun H locs (hG : gW X G2 V ((sp, oB 22 [.int (zI (x : Int)), .int (zI (x : Int))]) :: (wk, oB 21 [.ref sp, .ref cx, .ref wa, .ref rm, .ref (ra b), .int (zI 1)]) :: (cx, oB 23 [.ref cl9, va_rf al9, va_rf be9]) :: Z) s H locs) => ?_)
            have hG : gW X G2 V ((cx, oB 23 [.ref cl9, va_rf al9, va_rf be9]) :: (sp, oB 22 [.int (zI (x : Int)), .int (zI (x : Int))]) :: (wk, oB 21 [.ref sp, .ref cx, .ref wa, .ref rm, .ref (ra b), .int (zI 1)]) :: Z) s _ _ := hG.pull 2 rfl rfl
            have hG : gW X G2 V ((sp, oB 22 [.int (zI (x : Int)), .int (zI (x : Int))]) :: (cx, oB 23 [.ref cl9, va_rf al9, va_rf be9]) :: (wk, oB 21 [.ref sp, .ref cx, .ref wa, .ref rm, .ref (ra b), .int (zI 1)]) :: Z) s _ _ := hG.pull 1 rfl rfl
            have hG : gW X G2 V ((wk, oB 21 [.ref sp, .ref cx, .ref wa, .ref rm, .ref (ra b), .int (zI 1)]) :: (sp, oB 22 [.int (zI (x : Int)), .int (zI (x : Int))]) :: (cx, oB 23 [.ref cl9, va_rf al9, va_rf be9]) :: Z) s _ _ := hG.pull 2 rfl rfl
            exact g_vret hx hb hr hlocks hG (⟨(hle_G1.tr hle_G2), rfl, 1, ((x : Nat) : Int), ((x : Nat) : Int), cl9, al9, be9, xWk_to (o := 1) (wkStep_1 (by omega) (by rw [hcm]; exact (goesK_1s hf9))) (by decide) hb9 (hxy _ _ (goesK_1s hf9)), rfl⟩) ⟨by show _ ≤ 34; omega, by show _ ≤ 814; omega⟩ dX23_step_54
      · have hxy : ∀ x y, goesK (mPlace (wTx w f) (wTx w b) (wRun w)) (wTx w b).length 2 (rBy r) (kP k) (kQ k) = some (x, y) → x ≤ y ∧ y < (wTx w b).length := fun x y h => goesK_lt (fun i x h => (mPlace_lt h).2) h
        have hG : gW X G2 V ((sp, oB 22 [.int (zI (kP k : Int)), .int (zI (kQ k : Int))]) :: (wk, oB 21 [.ref sp, .ref cx, .ref wa, .ref rm, .ref (ra (kL k)), .int (zI h9)]) :: (cx, oB 23 [.ref cl9, va_rf al9, va_rf be9]) :: Z) s _ _ := hG.pull 1 rfl rfl
        refine g_ci (va_runU (C := "LineRemarks$Block") (As := [.ref sp, .ref r_9]) (rest := []) ⟨hx, hb, hml, hown, hts⟩ (metX18_follows_2 (pp := kP k) (qq := kQ k) hmt ⟨hf24, hb24⟩ hpq9 (show G2.1 rm = some (oB 16 _) from hle_G2.1 _ _ (hle_G1.1 _ _ hrm)) hby9) (va_cwO 2 hts (lw_O q2393 q2396 q2394 q2397 q2398 q147 q2399) rfl rfl rfl q2406 (by decide +kernel) ⟨Nat.le_of_ble_eq_true rfl, Nat.le_of_ble_eq_true rfl⟩) (g_preV hG (g_recv hG (hG.fz (show G2.1 rm = some (oB (14 + 2) _) from hle_G2.1 _ _ (hle_G1.1 _ _ hrm))) (ci := 16) rfl)) rfl rfl hl.1 rfl (lv_room (Nat.le_of_ble_eq_true rfl)) dX23_step_30 ⟨by show _ ≤ 34; omega, by show _ ≤ 814; omega⟩) hG (fun r_23 F_24 V_25 ws_ H locs hp hG => ?_)
        rcases hp with ⟨rfl, rfl, ⟨hf9, rfl, z1, z2, rfl⟩ | ⟨x, y, hf9, rfl, rfl⟩⟩
        · have hG : gW X G2 V ((sp, oB 22 [.int (zI z1), .int (zI z2)]) :: (wk, oB 21 [.ref sp, .ref cx, .ref wa, .ref rm, .ref (ra (kL k)), .int (zI h9)]) :: (cx, oB 23 [.ref cl9, va_rf al9, va_rf be9]) :: Z) s H locs := hG
          refine g_eq (tgt := 44) hx hb dX23_step_33 (by decide) (by decide) (fun h2 => ?_) (fun h2 => ?_)
          · have hG : gW X G2 V ((cx, oB 23 [.ref cl9, va_rf al9, va_rf be9]) :: (sp, oB 22 [.int (zI z1), .int (zI z2)]) :: (wk, oB 21 [.ref sp, .ref cx, .ref wa, .ref rm, .ref (ra (kL k)), .int (zI h9)]) :: Z) s _ _ := hG.pull 2 rfl rfl
            have hG : gW X G2 V ((sp, oB 22 [.int (zI z1), .int (zI z2)]) :: (cx, oB 23 [.ref cl9, va_rf al9, va_rf be9]) :: (wk, oB 21 [.ref sp, .ref cx, .ref wa, .ref rm, .ref (ra (kL k)), .int (zI h9)]) :: Z) s _ _ := hG.pull 1 rfl rfl
            have hG : gW X G2 V ((wk, oB 21 [.ref sp, .ref cx, .ref wa, .ref rm, .ref (ra (kL k)), .int (zI h9)]) :: (sp, oB 22 [.int (zI z1), .int (zI z2)]) :: (cx, oB 23 [.ref cl9, va_rf al9, va_rf be9]) :: Z) s _ _ := hG.pull 2 rfl rfl
            refine lv_aload_n hx hb dX23_step_44 rfl (lv_at hl 0 rfl) ?_
            refine lv_aload_n hx hb dX23_step_45 rfl (lv_at hl 1 rfl) ?_
            refine g_cv (va_runV (As := [.ref (ra b)]) (rest := []) ⟨hx, hb, hml, hown, hts⟩ (metX23_comesBack (hR.mono (hle_G1.tr hle_G2)) hK hb9 hk4 (hcx9.mono hle_G2) hw) (cwV 1 hts (lw_V q2441 q2443 qs33 q152 q2444) rfl rfl rfl (by decide +kernel) ⟨Nat.le_of_ble_eq_true rfl, Nat.le_of_ble_eq_true rfl⟩) (g_preV hG (g_recv hG (hG.at 0 rfl) (ci := 21) rfl)) rfl rfl hl.1 rfl (lv_room (Nat.le_of_ble_eq_true rfl)) dX23_step_46 ⟨by show _ ≤ 34; omega, by show _ ≤ 814; omega⟩) hG (fun F_27 V_28 ws_ H locs hp hG => ?_)
            obtain ⟨rfl, rfl, h8, p8, q8, hbk, rfl⟩ := hp
            have hG : gW X G2 V ((wk, oB 21 [.ref sp, .ref cx, .ref wa, .ref rm, .ref (ra (kL k)), .int (zI h8)]) :: (sp, oB 22 [.int (zI p8), .int (zI q8)]) :: (cx, oB 23 [.ref cl9, va_rf al9, va_rf be9]) :: Z) s H locs := hG
            refine lv_aload_n hx hb dX23_step_49 rfl (lv_at hl 0 rfl) ?_
            refine lv_aload_n hx hb dX23_step_50 rfl (lv_at hl 1 rfl) ?_
            refine g_put (ci := 21) hx hb hts in_X23 tyX23 tyX23_ok nmX23 hown hG 0 rfl rfl 4 (Nat.le_of_ble_eq_true rfl) (hts _ q2335) (fun _ h9 => h9) rfl (tyX23_ok 4 (Nat.le_of_ble_eq_true rfl)) rfl rfl (Nat.le_of_ble_eq_true rfl) dX23_step_51 (fun H locs (hG : gW X G2 V ((wk, oB 21 [.ref sp, .ref cx, .ref wa, .ref rm, .ref (ra b), .int (zI h8)]) :: (sp, oB 22 [.int (zI p8), .int (zI q8)]) :: (cx, oB 23 [.ref cl9, va_rf al9, va_rf be9]) :: Z) s H locs) => ?_)
            exact g_vret hx hb hr hlocks hG (⟨(hle_G1.tr hle_G2), rfl, h8, p8, q8, cl9, al9, be9, by rw [wkStep_b (Or.inr (by rw [hcm]; exact hf9))]; exact hbk.wk hb9 hk4 (hcx9.mono hle_G2), rfl⟩) ⟨by show _ ≤ 34; omega, by show _ ≤ 814; omega⟩ dX23_step_54
          · exfalso; omega
        · have hG : gW X G2 V ((sp, oB 22 [.int (zI (x : Int)), .int (zI (y : Int))]) :: (wk, oB 21 [.ref sp, .ref cx, .ref wa, .ref rm, .ref (ra (kL k)), .int (zI h9)]) :: (cx, oB 23 [.ref cl9, va_rf al9, va_rf be9]) :: Z) s H locs := hG
          refine g_eq (tgt := 44) hx hb dX23_step_33 (by decide) (by decide) (fun h2 => ?_) (fun h2 => ?_)
          · exfalso; omega
          · refine lv_aload_n hx hb dX23_step_36 rfl (lv_at hl 0 rfl) ?_
            refine lv_iconst (v := zI 1) hx hb dX23_step_37 (by decide +kernel) ?_
            refine g_put (ci := 21) hx hb hts in_X23 tyX23 tyX23_ok nmX23 hown hG 1 rfl rfl 5 (Nat.le_of_ble_eq_true rfl) (hts _ q2336) (fun _ h9 => h9) rfl (tyX23_ok 5 (Nat.le_of_ble_eq_true rfl)) rfl rfl (Nat.le_of_ble_eq_true rfl) dX23_step_38 (fun H locs (hG : gW X G2 V ((sp, oB 22 [.int (zI (x : Int)), .int (zI (y : Int))]) :: (wk, oB 21 [.ref sp, .ref cx, .ref wa, .ref rm, .ref (ra (kL k)), .int (zI 1)]) :: (cx, oB 23 [.ref cl9, va_rf al9, va_rf be9]) :: Z) s H locs) => ?_)
            refine lv_goto (tgt := 49) hx hb dX23_step_41 (by decide) ?_
            refine lv_aload_n hx hb dX23_step_49 rfl (lv_at hl 0 rfl) ?_
            refine lv_aload_n hx hb dX23_step_50 rfl (lv_at hl 1 rfl) ?_
            refine g_put (ci := 21) hx hb hts in_X23 tyX23 tyX23_ok nmX23 hown hG 1 rfl rfl 4 (Nat.le_of_ble_eq_true rfl) (hts _ q2335) (fun _ h9 => h9) rfl (tyX23_ok 4 (Nat.le_of_ble_eq_true rfl)) rfl rfl (Nat.le_of_ble_eq_true rfl) dX23_step_51 (fun H locs (hG : gW X G2 V ((sp, oB 22 [.int (zI (x : Int)), .int (zI (y : Int))]) :: (wk, oB 21 [.ref sp, .ref cx, .ref wa, .ref rm, .ref (ra b), .int (zI 1)]) :: (cx, oB 23 [.ref cl9, va_rf al9, va_rf be9]) :: Z) s H locs) => ?_)
            have hG : gW X G2 V ((cx, oB 23 [.ref cl9, va_rf al9, va_rf be9]) :: (sp, oB 22 [.int (zI (x : Int)), .int (zI (y : Int))]) :: (wk, oB 21 [.ref sp, .ref cx, .ref wa, .ref rm, .ref (ra b), .int (zI 1)]) :: Z) s _ _ := hG.pull 2 rfl rfl
            have hG : gW X G2 V ((sp, oB 22 [.int (zI (x : Int)), .int (zI (y : Int))]) :: (cx, oB 23 [.ref cl9, va_rf al9, va_rf be9]) :: (wk, oB 21 [.ref sp, .ref cx, .ref wa, .ref rm, .ref (ra b), .int (zI 1)]) :: Z) s _ _ := hG.pull 1 rfl rfl
            have hG : gW X G2 V ((wk, oB 21 [.ref sp, .ref cx, .ref wa, .ref rm, .ref (ra b), .int (zI 1)]) :: (sp, oB 22 [.int (zI (x : Int)), .int (zI (y : Int))]) :: (cx, oB 23 [.ref cl9, va_rf al9, va_rf be9]) :: Z) s _ _ := hG.pull 2 rfl rfl
            exact g_vret hx hb hr hlocks hG (⟨(hle_G1.tr hle_G2), rfl, 1, ((x : Nat) : Int), ((y : Nat) : Int), cl9, al9, be9, xWk_to (o := 1) (wkStep_1 (by omega) (by rw [hcm]; exact hf9)) (by decide) hb9 (hxy _ _ hf9), rfl⟩) ⟨by show _ ≤ 34; omega, by show _ ≤ 814; omega⟩ dX23_step_54
      · have hxy : ∀ x y, goesK (mPlace (wTx w f) (wTx w b) (wRun w)) (wTx w b).length 3 (rBy r) (kP k) (kQ k) = some (x, y) → x ≤ y ∧ y < (wTx w b).length := fun x y h => goesK_lt (fun i x h => (mPlace_lt h).2) h
        have hG : gW X G2 V ((sp, oB 22 [.int (zI (kP k : Int)), .int (zI (kQ k : Int))]) :: (wk, oB 21 [.ref sp, .ref cx, .ref wa, .ref rm, .ref (ra (kL k)), .int (zI h9)]) :: (cx, oB 23 [.ref cl9, va_rf al9, va_rf be9]) :: Z) s _ _ := hG.pull 1 rfl rfl
        refine g_ci (va_runU (C := "LineRemarks$Caret") (As := [.ref sp, .ref r_9]) (rest := []) ⟨hx, hb, hml, hown, hts⟩ (metX19_follows (pp := kP k) (qq := kQ k) hmt ⟨hf24, hb24⟩ hpq9 (show G2.1 rm = some (oB 17 _) from hle_G2.1 _ _ (hle_G1.1 _ _ hrm)) rfl) (va_cwO 2 hts (lw_O q2393 q2396 q2394 q2419 q2420 q148 q2421) rfl rfl rfl q2406 (by decide +kernel) ⟨Nat.le_of_ble_eq_true rfl, Nat.le_of_ble_eq_true rfl⟩) (g_preV hG (g_recv hG (hG.fz (show G2.1 rm = some (oB (14 + 3) _) from hle_G2.1 _ _ (hle_G1.1 _ _ hrm))) (ci := 17) rfl)) rfl rfl hl.1 rfl (lv_room (Nat.le_of_ble_eq_true rfl)) dX23_step_30 ⟨by show _ ≤ 34; omega, by show _ ≤ 814; omega⟩) hG (fun r_29 F_30 V_31 ws_ H locs hp hG => ?_)
        rcases hp with ⟨rfl, rfl, ⟨hf9, rfl, rfl⟩ | ⟨x, hf9, rfl, rfl⟩⟩
        · have hG : gW X G2 V ((sp, oB 22 [.int (zI (kP k : Int)), .int (zI (kP k : Int))]) :: (wk, oB 21 [.ref sp, .ref cx, .ref wa, .ref rm, .ref (ra (kL k)), .int (zI h9)]) :: (cx, oB 23 [.ref cl9, va_rf al9, va_rf be9]) :: Z) s H locs := hG
          refine g_eq (tgt := 44) hx hb dX23_step_33 (by decide) (by decide) (fun h2 => ?_) (fun h2 => ?_)
          · have hG : gW X G2 V ((cx, oB 23 [.ref cl9, va_rf al9, va_rf be9]) :: (sp, oB 22 [.int (zI (kP k : Int)), .int (zI (kP k : Int))]) :: (wk, oB 21 [.ref sp, .ref cx, .ref wa, .ref rm, .ref (ra (kL k)), .int (zI h9)]) :: Z) s _ _ := hG.pull 2 rfl rfl
            have hG : gW X G2 V ((sp, oB 22 [.int (zI (kP k : Int)), .int (zI (kP k : Int))]) :: (cx, oB 23 [.ref cl9, va_rf al9, va_rf be9]) :: (wk, oB 21 [.ref sp, .ref cx, .ref wa, .ref rm, .ref (ra (kL k)), .int (zI h9)]) :: Z) s _ _ := hG.pull 1 rfl rfl
            have hG : gW X G2 V ((wk, oB 21 [.ref sp, .ref cx, .ref wa, .ref rm, .ref (ra (kL k)), .int (zI h9)]) :: (sp, oB 22 [.int (zI (kP k : Int)), .int (zI (kP k : Int))]) :: (cx, oB 23 [.ref cl9, va_rf al9, va_rf be9]) :: Z) s _ _ := hG.pull 2 rfl rfl
            refine lv_aload_n hx hb dX23_step_44 rfl (lv_at hl 0 rfl) ?_
            refine lv_aload_n hx hb dX23_step_45 rfl (lv_at hl 1 rfl) ?_
            refine g_cv (va_runV (As := [.ref (ra b)]) (rest := []) ⟨hx, hb, hml, hown, hts⟩ (metX23_comesBack (hR.mono (hle_G1.tr hle_G2)) hK hb9 hk4 (hcx9.mono hle_G2) hw) (cwV 1 hts (lw_V q2441 q2443 qs33 q152 q2444) rfl rfl rfl (by decide +kernel) ⟨Nat.le_of_ble_eq_true rfl, Nat.le_of_ble_eq_true rfl⟩) (g_preV hG (g_recv hG (hG.at 0 rfl) (ci := 21) rfl)) rfl rfl hl.1 rfl (lv_room (Nat.le_of_ble_eq_true rfl)) dX23_step_46 ⟨by show _ ≤ 34; omega, by show _ ≤ 814; omega⟩) hG (fun F_33 V_34 ws_ H locs hp hG => ?_)
            obtain ⟨rfl, rfl, h8, p8, q8, hbk, rfl⟩ := hp
            have hG : gW X G2 V ((wk, oB 21 [.ref sp, .ref cx, .ref wa, .ref rm, .ref (ra (kL k)), .int (zI h8)]) :: (sp, oB 22 [.int (zI p8), .int (zI q8)]) :: (cx, oB 23 [.ref cl9, va_rf al9, va_rf be9]) :: Z) s H locs := hG
            refine lv_aload_n hx hb dX23_step_49 rfl (lv_at hl 0 rfl) ?_
            refine lv_aload_n hx hb dX23_step_50 rfl (lv_at hl 1 rfl) ?_
            refine g_put (ci := 21) hx hb hts in_X23 tyX23 tyX23_ok nmX23 hown hG 0 rfl rfl 4 (Nat.le_of_ble_eq_true rfl) (hts _ q2335) (fun _ h9 => h9) rfl (tyX23_ok 4 (Nat.le_of_ble_eq_true rfl)) rfl rfl (Nat.le_of_ble_eq_true rfl) dX23_step_51 (fun H locs (hG : gW X G2 V ((wk, oB 21 [.ref sp, .ref cx, .ref wa, .ref rm, .ref (ra b), .int (zI h8)]) :: (sp, oB 22 [.int (zI p8), .int (zI q8)]) :: (cx, oB 23 [.ref cl9, va_rf al9, va_rf be9]) :: Z) s H locs) => ?_)
            exact g_vret hx hb hr hlocks hG (⟨(hle_G1.tr hle_G2), rfl, h8, p8, q8, cl9, al9, be9, by rw [wkStep_b (Or.inr (by rw [hcm]; exact goesK_3n hf9))]; exact hbk.wk hb9 hk4 (hcx9.mono hle_G2), rfl⟩) ⟨by show _ ≤ 34; omega, by show _ ≤ 814; omega⟩ dX23_step_54
          · exfalso; omega
        · have hG : gW X G2 V ((sp, oB 22 [.int (zI (x : Int)), .int (zI (x : Int))]) :: (wk, oB 21 [.ref sp, .ref cx, .ref wa, .ref rm, .ref (ra (kL k)), .int (zI h9)]) :: (cx, oB 23 [.ref cl9, va_rf al9, va_rf be9]) :: Z) s H locs := hG
          refine g_eq (tgt := 44) hx hb dX23_step_33 (by decide) (by decide) (fun h2 => ?_) (fun h2 => ?_)
          · exfalso; omega
          · refine lv_aload_n hx hb dX23_step_36 rfl (lv_at hl 0 rfl) ?_
            refine lv_iconst (v := zI 1) hx hb dX23_step_37 (by decide +kernel) ?_
            refine g_put (ci := 21) hx hb hts in_X23 tyX23 tyX23_ok nmX23 hown hG 1 rfl rfl 5 (Nat.le_of_ble_eq_true rfl) (hts _ q2336) (fun _ h9 => h9) rfl (tyX23_ok 5 (Nat.le_of_ble_eq_true rfl)) rfl rfl (Nat.le_of_ble_eq_true rfl) dX23_step_38 (fun H locs (hG : gW X G2 V ((sp, oB 22 [.int (zI (x : Int)), .int (zI (x : Int))]) :: (wk, oB 21 [.ref sp, .ref cx, .ref wa, .ref rm, .ref (ra (kL k)), .int (zI 1)]) :: (cx, oB 23 [.ref cl9, va_rf al9, va_rf be9]) :: Z) s H locs) => ?_)
            refine lv_goto (tgt := 49) hx hb dX23_step_41 (by decide) ?_
            refine lv_aload_n hx hb dX23_step_49 rfl (lv_at hl 0 rfl) ?_
            refine lv_aload_n hx hb dX23_step_50 rfl (lv_at hl 1 rfl) ?_
            refine g_put (ci := 21) hx hb hts in_X23 tyX23 tyX23_ok nmX23 hown hG 1 rfl rfl 4 (Nat.le_of_ble_eq_true rfl) (hts _ q2335) (fun _ h9 => h9) rfl (tyX23_ok 4 (Nat.le_of_ble_eq_true rfl)) rfl rfl (Nat.le_of_ble_eq_true rfl) dX23_step_51 (fun H locs (hG : gW X G2 V ((sp, oB 22 [.int (zI (x : Int)), .int (zI (x : Int))]) :: (wk, oB 21 [.ref sp, .ref cx, .ref wa, .ref rm, .ref (ra b), .int (zI 1)]) :: (cx, oB 23 [.ref cl9, va_rf al9, va_rf be9]) :: Z) s H locs) => ?_)
            have hG : gW X G2 V ((cx, oB 23 [.ref cl9, va_rf al9, va_rf be9]) :: (sp, oB 22 [.int (zI (x : Int)), .int (zI (x : Int))]) :: (wk, oB 21 [.ref sp, .ref cx, .ref wa, .ref rm, .ref (ra b), .int (zI 1)]) :: Z) s _ _ := hG.pull 2 rfl rfl
            have hG : gW X G2 V ((sp, oB 22 [.int (zI (x : Int)), .int (zI (x : Int))]) :: (cx, oB 23 [.ref cl9, va_rf al9, va_rf be9]) :: (wk, oB 21 [.ref sp, .ref cx, .ref wa, .ref rm, .ref (ra b), .int (zI 1)]) :: Z) s _ _ := hG.pull 1 rfl rfl
            have hG : gW X G2 V ((wk, oB 21 [.ref sp, .ref cx, .ref wa, .ref rm, .ref (ra b), .int (zI 1)]) :: (sp, oB 22 [.int (zI (x : Int)), .int (zI (x : Int))]) :: (cx, oB 23 [.ref cl9, va_rf al9, va_rf be9]) :: Z) s _ _ := hG.pull 2 rfl rfl
            exact g_vret hx hb hr hlocks hG (⟨(hle_G1.tr hle_G2), rfl, 1, ((x : Nat) : Int), ((x : Nat) : Int), cl9, al9, be9, xWk_to (o := 1) (wkStep_1 (by omega) (by rw [hcm]; exact (goesK_3s hf9))) (by decide) hb9 (hxy _ _ (goesK_3s hf9)), rfl⟩) ⟨by show _ ≤ 34; omega, by show _ ≤ 814; omega⟩ dX23_step_54
      · have hxy : ∀ x y, goesK (mPlace (wTx w f) (wTx w b) (wRun w)) (wTx w b).length 4 (rBy r) (kP k) (kQ k) = some (x, y) → x ≤ y ∧ y < (wTx w b).length := fun x y h => goesK_lt (fun i x h => (mPlace_lt h).2) h
        have hG : gW X G2 V ((sp, oB 22 [.int (zI (kP k : Int)), .int (zI (kQ k : Int))]) :: (wk, oB 21 [.ref sp, .ref cx, .ref wa, .ref rm, .ref (ra (kL k)), .int (zI h9)]) :: (cx, oB 23 [.ref cl9, va_rf al9, va_rf be9]) :: Z) s _ _ := hG.pull 1 rfl rfl
        refine g_ci (va_runU (C := "LineRemarks$Loose") (As := [.ref sp, .ref r_9]) (rest := []) ⟨hx, hb, hml, hown, hts⟩ (metX20_follows (pp := kP k) (qq := kQ k) hmt ⟨hf24, hb24⟩ hpq9 (show G2.1 rm = some (oB 18 _) from hle_G2.1 _ _ (hle_G1.1 _ _ hrm)) hby9) (va_cwO 2 hts (lw_O q2393 q2396 q2394 q2428 q2429 q149 q2430) rfl rfl rfl q2406 (by decide +kernel) ⟨Nat.le_of_ble_eq_true rfl, Nat.le_of_ble_eq_true rfl⟩) (g_preV hG (g_recv hG (hG.fz (show G2.1 rm = some (oB (14 + 4) _) from hle_G2.1 _ _ (hle_G1.1 _ _ hrm))) (ci := 18) rfl)) rfl rfl hl.1 rfl (lv_room (Nat.le_of_ble_eq_true rfl)) dX23_step_30 ⟨by show _ ≤ 34; omega, by show _ ≤ 814; omega⟩) hG (fun r_35 F_36 V_37 ws_ H locs hp hG => ?_)
        rcases hp with ⟨rfl, rfl, ⟨hf9, rfl, z1, z2, rfl⟩ | ⟨x, y, hf9, rfl, rfl⟩⟩
        · have hG : gW X G2 V ((sp, oB 22 [.int (zI z1), .int (zI z2)]) :: (wk, oB 21 [.ref sp, .ref cx, .ref wa, .ref rm, .ref (ra (kL k)), .int (zI h9)]) :: (cx, oB 23 [.ref cl9, va_rf al9, va_rf be9]) :: Z) s H locs := hG
          refine g_eq (tgt := 44) hx hb dX23_step_33 (by decide) (by decide) (fun h2 => ?_) (fun h2 => ?_)
          · have hG : gW X G2 V ((cx, oB 23 [.ref cl9, va_rf al9, va_rf be9]) :: (sp, oB 22 [.int (zI z1), .int (zI z2)]) :: (wk, oB 21 [.ref sp, .ref cx, .ref wa, .ref rm, .ref (ra (kL k)), .int (zI h9)]) :: Z) s _ _ := hG.pull 2 rfl rfl
            have hG : gW X G2 V ((sp, oB 22 [.int (zI z1), .int (zI z2)]) :: (cx, oB 23 [.ref cl9, va_rf al9, va_rf be9]) :: (wk, oB 21 [.ref sp, .ref cx, .ref wa, .ref rm, .ref (ra (kL k)), .int (zI h9)]) :: Z) s _ _ := hG.pull 1 rfl rfl
            have hG : gW X G2 V ((wk, oB 21 [.ref sp, .ref cx, .ref wa, .ref rm, .ref (ra (kL k)), .int (zI h9)]) :: (sp, oB 22 [.int (zI z1), .int (zI z2)]) :: (cx, oB 23 [.ref cl9, va_rf al9, va_rf be9]) :: Z) s _ _ := hG.pull 2 rfl rfl
            refine lv_aload_n hx hb dX23_step_44 rfl (lv_at hl 0 rfl) ?_
            refine lv_aload_n hx hb dX23_step_45 rfl (lv_at hl 1 rfl) ?_
            refine g_cv (va_runV (As := [.ref (ra b)]) (rest := []) ⟨hx, hb, hml, hown, hts⟩ (metX23_comesBack (hR.mono (hle_G1.tr hle_G2)) hK hb9 hk4 (hcx9.mono hle_G2) hw) (cwV 1 hts (lw_V q2441 q2443 qs33 q152 q2444) rfl rfl rfl (by decide +kernel) ⟨Nat.le_of_ble_eq_true rfl, Nat.le_of_ble_eq_true rfl⟩) (g_preV hG (g_recv hG (hG.at 0 rfl) (ci := 21) rfl)) rfl rfl hl.1 rfl (lv_room (Nat.le_of_ble_eq_true rfl)) dX23_step_46 ⟨by show _ ≤ 34; omega, by show _ ≤ 814; omega⟩) hG (fun F_39 V_40 ws_ H locs hp hG => ?_)
            obtain ⟨rfl, rfl, h8, p8, q8, hbk, rfl⟩ := hp
            have hG : gW X G2 V ((wk, oB 21 [.ref sp, .ref cx, .ref wa, .ref rm, .ref (ra (kL k)), .int (zI h8)]) :: (sp, oB 22 [.int (zI p8), .int (zI q8)]) :: (cx, oB 23 [.ref cl9, va_rf al9, va_rf be9]) :: Z) s H locs := hG
            refine lv_aload_n hx hb dX23_step_49 rfl (lv_at hl 0 rfl) ?_
            refine lv_aload_n hx hb dX23_step_50 rfl (lv_at hl 1 rfl) ?_
            refine g_put (ci := 21) hx hb hts in_X23 tyX23 tyX23_ok nmX23 hown hG 0 rfl rfl 4 (Nat.le_of_ble_eq_true rfl) (hts _ q2335) (fun _ h9 => h9) rfl (tyX23_ok 4 (Nat.le_of_ble_eq_true rfl)) rfl rfl (Nat.le_of_ble_eq_true rfl) dX23_step_51 (fun H locs (hG : gW X G2 V ((wk, oB 21 [.ref sp, .ref cx, .ref wa, .ref rm, .ref (ra b), .int (zI h8)]) :: (sp, oB 22 [.int (zI p8), .int (zI q8)]) :: (cx, oB 23 [.ref cl9, va_rf al9, va_rf be9]) :: Z) s H locs) => ?_)
            exact g_vret hx hb hr hlocks hG (⟨(hle_G1.tr hle_G2), rfl, h8, p8, q8, cl9, al9, be9, by rw [wkStep_b (Or.inr (by rw [hcm]; exact hf9))]; exact hbk.wk hb9 hk4 (hcx9.mono hle_G2), rfl⟩) ⟨by show _ ≤ 34; omega, by show _ ≤ 814; omega⟩ dX23_step_54
          · exfalso; omega
        · have hG : gW X G2 V ((sp, oB 22 [.int (zI (x : Int)), .int (zI (y : Int))]) :: (wk, oB 21 [.ref sp, .ref cx, .ref wa, .ref rm, .ref (ra (kL k)), .int (zI h9)]) :: (cx, oB 23 [.ref cl9, va_rf al9, va_rf be9]) :: Z) s H locs := hG
          refine g_eq (tgt := 44) hx hb dX23_step_33 (by decide) (by decide) (fun h2 => ?_) (fun h2 => ?_)
          · exfalso; omega
          · refine lv_aload_n hx hb dX23_step_36 rfl (lv_at hl 0 rfl) ?_
            refine lv_iconst (v := zI 1) hx hb dX23_step_37 (by decide +kernel) ?_
            refine g_put (ci := 21) hx hb hts in_X23 tyX23 tyX23_ok nmX23 hown hG 1 rfl rfl 5 (Nat.le_of_ble_eq_true rfl) (hts _ q2336) (fun _ h9 => h9) rfl (tyX23_ok 5 (Nat.le_of_ble_eq_true rfl)) rfl rfl (Nat.le_of_ble_eq_true rfl) dX23_step_38 (fun H locs (hG : gW X G2 V ((sp, oB 22 [.int (zI (x : Int)), .int (zI (y : Int))]) :: (wk, oB 21 [.ref sp, .ref cx, .ref wa, .ref rm, .ref (ra (kL k)), .int (zI 1)]) :: (cx, oB 23 [.ref cl9, va_rf al9, va_rf be9]) :: Z) s H locs) => ?_)
            refine lv_goto (tgt := 49) hx hb dX23_step_41 (by decide) ?_
            refine lv_aload_n hx hb dX23_step_49 rfl (lv_at hl 0 rfl) ?_
            refine lv_aload_n hx hb dX23_step_50 rfl (lv_at hl 1 rfl) ?_
            refine g_put (ci := 21) hx hb hts in_X23 tyX23 tyX23_ok nmX23 hown hG 1 rfl rfl 4 (Nat.le_of_ble_eq_true rfl) (hts _ q2335) (fun _ h9 => h9) rfl (tyX23_ok 4 (Nat.le_of_ble_eq_true rfl)) rfl rfl (Nat.le_of_ble_eq_true rfl) dX23_step_51 (fun H locs (hG : gW X G2 V ((sp, oB 22 [.int (zI (x : Int)), .int (zI (y : Int))]) :: (wk, oB 21 [.ref sp, .ref cx, .ref wa, .ref rm, .ref (ra b), .int (zI 1)]) :: (cx, oB 23 [.ref cl9, va_rf al9, va_rf be9]) :: Z) s H locs) => ?_)
            have hG : gW X G2 V ((cx, oB 23 [.ref cl9, va_rf al9, va_rf be9]) :: (sp, oB 22 [.int (zI (x : Int)), .int (zI (y : Int))]) :: (wk, oB 21 [.ref sp, .ref cx, .ref wa, .ref rm, .ref (ra b), .int (zI 1)]) :: Z) s _ _ := hG.pull 2 rfl rfl
            have hG : gW X G2 V ((sp, oB 22 [.int (zI (x : Int)), .int (zI (y : Int))]) :: (cx, oB 23 [.ref cl9, va_rf al9, va_rf be9]) :: (wk, oB 21 [.ref sp, .ref cx, .ref wa, .ref rm, .ref (ra b), .int (zI 1)]) :: Z) s _ _ := hG.pull 1 rfl rfl
            have hG : gW X G2 V ((wk, oB 21 [.ref sp, .ref cx, .ref wa, .ref rm, .ref (ra b), .int (zI 1)]) :: (sp, oB 22 [.int (zI (x : Int)), .int (zI (y : Int))]) :: (cx, oB 23 [.ref cl9, va_rf al9, va_rf be9]) :: Z) s _ _ := hG.pull 2 rfl rfl
            exact g_vret hx hb hr hlocks hG (⟨(hle_G1.tr hle_G2), rfl, 1, ((x : Nat) : Int), ((y : Nat) : Int), cl9, al9, be9, xWk_to (o := 1) (wkStep_1 (by omega) (by rw [hcm]; exact hf9)) (by decide) hb9 (hxy _ _ hf9), rfl⟩) ⟨by show _ ≤ 34; omega, by show _ ≤ 814; omega⟩ dX23_step_54
      · have hxy : ∀ x y, goesK (mPlace (wTx w f) (wTx w b) (wRun w)) (wTx w b).length 5 (rBy r) (kP k) (kQ k) = some (x, y) → x ≤ y ∧ y < (wTx w b).length := fun x y h => goesK_lt (fun i x h => (mPlace_lt h).2) h
        have hG : gW X G2 V ((sp, oB 22 [.int (zI (kP k : Int)), .int (zI (kQ k : Int))]) :: (wk, oB 21 [.ref sp, .ref cx, .ref wa, .ref rm, .ref (ra (kL k)), .int (zI h9)]) :: (cx, oB 23 [.ref cl9, va_rf al9, va_rf be9]) :: Z) s _ _ := hG.pull 1 rfl rfl
        refine g_ci (va_runU (C := "LineRemarks$Wall") (As := [.ref sp, .ref r_9]) (rest := []) ⟨hx, hb, hml, hown, hts⟩ (metX18_follows_5 (pp := kP k) (qq := kQ k) hmt ⟨hf24, hb24⟩ hpq9 (show G2.1 rm = some (oB 19 _) from hle_G2.1 _ _ (hle_G1.1 _ _ hrm)) hby9) (va_cwO 2 hts (lw_O q2393 q2396 q2394 q2440 q2398 q147 q2399) rfl rfl rfl q2406 (by decide +kernel) ⟨Nat.le_of_ble_eq_true rfl, Nat.le_of_ble_eq_true rfl⟩) (g_preV hG (g_recv hG (hG.fz (show G2.1 rm = some (oB (14 + 5) _) from hle_G2.1 _ _ (hle_G1.1 _ _ hrm))) (ci := 19) rfl)) rfl rfl hl.1 rfl (lv_room (Nat.le_of_ble_eq_true rfl)) dX23_step_30 ⟨by show _ ≤ 34; omega, by show _ ≤ 814; omega⟩) hG (fun r_41 F_42 V_43 ws_ H locs hp hG => ?_)
        rcases hp with ⟨rfl, rfl, ⟨hf9, rfl, z1, z2, rfl⟩ | ⟨x, y, hf9, rfl, rfl⟩⟩
        · have hG : gW X G2 V ((sp, oB 22 [.int (zI z1), .int (zI z2)]) :: (wk, oB 21 [.ref sp, .ref cx, .ref wa, .ref rm, .ref (ra (kL k)), .int (zI h9)]) :: (cx, oB 23 [.ref cl9, va_rf al9, va_rf be9]) :: Z) s H locs := hG
          refine g_eq (tgt := 44) hx hb dX23_step_33 (by decide) (by decide) (fun h2 => ?_) (fun h2 => ?_)
          · have hG : gW X G2 V ((cx, oB 23 [.ref cl9, va_rf al9, va_rf be9]) :: (sp, oB 22 [.int (zI z1), .int (zI z2)]) :: (wk, oB 21 [.ref sp, .ref cx, .ref wa, .ref rm, .ref (ra (kL k)), .int (zI h9)]) :: Z) s _ _ := hG.pull 2 rfl rfl
            have hG : gW X G2 V ((sp, oB 22 [.int (zI z1), .int (zI z2)]) :: (cx, oB 23 [.ref cl9, va_rf al9, va_rf be9]) :: (wk, oB 21 [.ref sp, .ref cx, .ref wa, .ref rm, .ref (ra (kL k)), .int (zI h9)]) :: Z) s _ _ := hG.pull 1 rfl rfl
            have hG : gW X G2 V ((wk, oB 21 [.ref sp, .ref cx, .ref wa, .ref rm, .ref (ra (kL k)), .int (zI h9)]) :: (sp, oB 22 [.int (zI z1), .int (zI z2)]) :: (cx, oB 23 [.ref cl9, va_rf al9, va_rf be9]) :: Z) s _ _ := hG.pull 2 rfl rfl
            refine lv_aload_n hx hb dX23_step_44 rfl (lv_at hl 0 rfl) ?_
            refine lv_aload_n hx hb dX23_step_45 rfl (lv_at hl 1 rfl) ?_
            refine g_cv (va_runV (As := [.ref (ra b)]) (rest := []) ⟨hx, hb, hml, hown, hts⟩ (metX23_comesBack (hR.mono (hle_G1.tr hle_G2)) hK hb9 hk4 (hcx9.mono hle_G2) hw) (cwV 1 hts (lw_V q2441 q2443 qs33 q152 q2444) rfl rfl rfl (by decide +kernel) ⟨Nat.le_of_ble_eq_true rfl, Nat.le_of_ble_eq_true rfl⟩) (g_preV hG (g_recv hG (hG.at 0 rfl) (ci := 21) rfl)) rfl rfl hl.1 rfl (lv_room (Nat.le_of_ble_eq_true rfl)) dX23_step_46 ⟨by show _ ≤ 34; omega, by show _ ≤ 814; omega⟩) hG (fun F_45 V_46 ws_ H locs hp hG => ?_)
            obtain ⟨rfl, rfl, h8, p8, q8, hbk, rfl⟩ := hp
            have hG : gW X G2 V ((wk, oB 21 [.ref sp, .ref cx, .ref wa, .ref rm, .ref (ra (kL k)), .int (zI h8)]) :: (sp, oB 22 [.int (zI p8), .int (zI q8)]) :: (cx, oB 23 [.ref cl9, va_rf al9, va_rf be9]) :: Z) s H locs := hG
            refine lv_aload_n hx hb dX23_step_49 rfl (lv_at hl 0 rfl) ?_
            refine lv_aload_n hx hb dX23_step_50 rfl (lv_at hl 1 rfl) ?_
            refine g_put (ci := 21) hx hb hts in_X23 tyX23 tyX23_ok nmX23 hown hG 0 rfl rfl 4 (Nat.le_of_ble_eq_true rfl) (hts _ q2335) (fun _ h9 => h9) rfl (tyX23_ok 4 (Nat.le_of_ble_eq_true rfl)) rfl rfl (Nat.le_of_ble_eq_true rfl) dX23_step_51 (fun H locs (hG : gW X G2 V ((wk, oB 21 [.ref sp, .ref cx, .ref wa, .ref rm, .ref (ra b), .int (zI h8)]) :: (sp, oB 22 [.int (zI p8), .int (zI q8)]) :: (cx, oB 23 [.ref cl9, va_rf al9, va_rf be9]) :: Z) s H locs) => ?_)
            exact g_vret hx hb hr hlocks hG (⟨(hle_G1.tr hle_G2), rfl, h8, p8, q8, cl9, al9, be9, by rw [wkStep_b (Or.inr (by rw [hcm]; exact hf9))]; exact hbk.wk hb9 hk4 (hcx9.mono hle_G2), rfl⟩) ⟨by show _ ≤ 34; omega, by show _ ≤ 814; omega⟩ dX23_step_54
          · exfalso; omega
        · have hG : gW X G2 V ((sp, oB 22 [.int (zI (x : Int)), .int (zI (y : Int))]) :: (wk, oB 21 [.ref sp, .ref cx, .ref wa, .ref rm, .ref (ra (kL k)), .int (zI h9)]) :: (cx, oB 23 [.ref cl9, va_rf al9, va_rf be9]) :: Z) s H locs := hG
          refine g_eq (tgt := 44) hx hb dX23_step_33 (by decide) (by decide) (fun h2 => ?_) (fun h2 => ?_)
          · exfalso; omega
          · refine lv_aload_n hx hb dX23_step_36 rfl (lv_at hl 0 rfl) ?_
            refine lv_iconst (v := zI 1) hx hb dX23_step_37 (by decide +kernel) ?_
            refine g_put (ci := 21) hx hb hts in_X23 tyX23 tyX23_ok nmX23 hown hG 1 rfl rfl 5 (Nat.le_of_ble_eq_true rfl) (hts _ q2336) (fun _ h9 => h9) rfl (tyX23_ok 5 (Nat.le_of_ble_eq_true rfl)) rfl rfl (Nat.le_of_ble_eq_true rfl) dX23_step_38 (fun H locs (hG : gW X G2 V ((sp, oB 22 [.int (zI (x : Int)), .int (zI (y : Int))]) :: (wk, oB 21 [.ref sp, .ref cx, .ref wa, .ref rm, .ref (ra (kL k)), .int (zI 1)]) :: (cx, oB 23 [.ref cl9, va_rf al9, va_rf be9]) :: Z) s H locs) => ?_)
            refine lv_goto (tgt := 49) hx hb dX23_step_41 (by decide) ?_
            refine lv_aload_n hx hb dX23_step_49 rfl (lv_at hl 0 rfl) ?_
            refine lv_aload_n hx hb dX23_step_50 rfl (lv_at hl 1 rfl) ?_
            refine g_put (ci := 21) hx hb hts in_X23 tyX23 tyX23_ok nmX23 hown hG 1 rfl rfl 4 (Nat.le_of_ble_eq_true rfl) (hts _ q2335) (fun _ h9 => h9) rfl (tyX23_ok 4 (Nat.le_of_ble_eq_true rfl)) rfl rfl (Nat.le_of_ble_eq_true rfl) dX23_step_51 (fun H locs (hG : gW X G2 V ((sp, oB 22 [.int (zI (x : Int)), .int (zI (y : Int))]) :: (wk, oB 21 [.ref sp, .ref cx, .ref wa, .ref rm, .ref (ra b), .int (zI 1)]) :: (cx, oB 23 [.ref cl9, va_rf al9, va_rf be9]) :: Z) s H locs) => ?_)
            have hG : gW X G2 V ((cx, oB 23 [.ref cl9, va_rf al9, va_rf be9]) :: (sp, oB 22 [.int (zI (x : Int)), .int (zI (y : Int))]) :: (wk, oB 21 [.ref sp, .ref cx, .ref wa, .ref rm, .ref (ra b), .int (zI 1)]) :: Z) s _ _ := hG.pull 2 rfl rfl
            have hG : gW X G2 V ((sp, oB 22 [.int (zI (x : Int)), .int (zI (y : Int))]) :: (cx, oB 23 [.ref cl9, va_rf al9, va_rf be9]) :: (wk, oB 21 [.ref sp, .ref cx, .ref wa, .ref rm, .ref (ra b), .int (zI 1)]) :: Z) s _ _ := hG.pull 1 rfl rfl
            have hG : gW X G2 V ((wk, oB 21 [.ref sp, .ref cx, .ref wa, .ref rm, .ref (ra b), .int (zI 1)]) :: (sp, oB 22 [.int (zI (x : Int)), .int (zI (y : Int))]) :: (cx, oB 23 [.ref cl9, va_rf al9, va_rf be9]) :: Z) s _ _ := hG.pull 2 rfl rfl
            exact g_vret hx hb hr hlocks hG (⟨(hle_G1.tr hle_G2), rfl, 1, ((x : Nat) : Int), ((y : Nat) : Int), cl9, al9, be9, xWk_to (o := 1) (wkStep_1 (by omega) (by rw [hcm]; exact hf9)) (by decide) hb9 (hxy _ _ hf9), rfl⟩) ⟨by show _ ≤ 34; omega, by show _ ≤ 814; omega⟩ dX23_step_54
      · have hxy : ∀ x y, goesK (mPlace (wTx w f) (wTx w b) (wRun w)) (wTx w b).length 6 (rBy r) (kP k) (kQ k) = some (x, y) → x ≤ y ∧ y < (wTx w b).length := fun x y h => goesK_lt (fun i x h => (mPlace_lt h).2) h
        have hG : gW X G2 V ((sp, oB 22 [.int (zI (kP k : Int)), .int (zI (kQ k : Int))]) :: (wk, oB 21 [.ref sp, .ref cx, .ref wa, .ref rm, .ref (ra (kL k)), .int (zI h9)]) :: (cx, oB 23 [.ref cl9, va_rf al9, va_rf be9]) :: Z) s _ _ := hG.pull 1 rfl rfl
        refine g_ci (va_runU (C := "LineRemarks$Tail") (As := [.ref sp, .ref r_9]) (rest := []) ⟨hx, hb, hml, hown, hts⟩ (metX22_follows (pp := kP k) (qq := kQ k) hmt ⟨hf24, hb24⟩ hpq9 (show G2.1 rm = some (oB 20 _) from hle_G2.1 _ _ (hle_G1.1 _ _ hrm)) rfl) (va_cwO 2 hts (lw_O q2393 q2396 q2394 q2435 q2436 q151 q2437) rfl rfl rfl q2406 (by decide +kernel) ⟨Nat.le_of_ble_eq_true rfl, Nat.le_of_ble_eq_true rfl⟩) (g_preV hG (g_recv hG (hG.fz (show G2.1 rm = some (oB (14 + 6) _) from hle_G2.1 _ _ (hle_G1.1 _ _ hrm))) (ci := 20) rfl)) rfl rfl hl.1 rfl (lv_room (Nat.le_of_ble_eq_true rfl)) dX23_step_30 ⟨by show _ ≤ 34; omega, by show _ ≤ 814; omega⟩) hG (fun r_47 F_48 V_49 ws_ H locs hp hG => ?_)
        rcases hp with ⟨rfl, rfl, ⟨hf9, rfl, rfl⟩ | ⟨x, hf9, rfl, rfl⟩⟩
        · have hG : gW X G2 V ((sp, oB 22 [.int (zI (kP k : Int)), .int (zI (kP k : Int))]) :: (wk, oB 21 [.ref sp, .ref cx, .ref wa, .ref rm, .ref (ra (kL k)), .int (zI h9)]) :: (cx, oB 23 [.ref cl9, va_rf al9, va_rf be9]) :: Z) s H locs := hG
          refine g_eq (tgt := 44) hx hb dX23_step_33 (by decide) (by decide) (fun h2 => ?_) (fun h2 => ?_)
          · have hG : gW X G2 V ((cx, oB 23 [.ref cl9, va_rf al9, va_rf be9]) :: (sp, oB 22 [.int (zI (kP k : Int)), .int (zI (kP k : Int))]) :: (wk, oB 21 [.ref sp, .ref cx, .ref wa, .ref rm, .ref (ra (kL k)), .int (zI h9)]) :: Z) s _ _ := hG.pull 2 rfl rfl
            have hG : gW X G2 V ((sp, oB 22 [.int (zI (kP k : Int)), .int (zI (kP k : Int))]) :: (cx, oB 23 [.ref cl9, va_rf al9, va_rf be9]) :: (wk, oB 21 [.ref sp, .ref cx, .ref wa, .ref rm, .ref (ra (kL k)), .int (zI h9)]) :: Z) s _ _ := hG.pull 1 rfl rfl
            have hG : gW X G2 V ((wk, oB 21 [.ref sp, .ref cx, .ref wa, .ref rm, .ref (ra (kL k)), .int (zI h9)]) :: (sp, oB 22 [.int (zI (kP k : Int)), .int (zI (kP k : Int))]) :: (cx, oB 23 [.ref cl9, va_rf al9, va_rf be9]) :: Z) s _ _ := hG.pull 2 rfl rfl
            refine lv_aload_n hx hb dX23_step_44 rfl (lv_at hl 0 rfl) ?_
            refine lv_aload_n hx hb dX23_step_45 rfl (lv_at hl 1 rfl) ?_
            refine g_cv (va_runV (As := [.ref (ra b)]) (rest := []) ⟨hx, hb, hml, hown, hts⟩ (metX23_comesBack (hR.mono (hle_G1.tr hle_G2)) hK hb9 hk4 (hcx9.mono hle_G2) hw) (cwV 1 hts (lw_V q2441 q2443 qs33 q152 q2444) rfl rfl rfl (by decide +kernel) ⟨Nat.le_of_ble_eq_true rfl, Nat.le_of_ble_eq_true rfl⟩) (g_preV hG (g_recv hG (hG.at 0 rfl) (ci := 21) rfl)) rfl rfl hl.1 rfl (lv_room (Nat.le_of_ble_eq_true rfl)) dX23_step_46 ⟨by show _ ≤ 34; omega, by show _ ≤ 814; omega⟩) hG (fun F_51 V_52 ws_ H locs hp hG => ?_)
            obtain ⟨rfl, rfl, h8, p8, q8, hbk, rfl⟩ := hp
            have hG : gW X G2 V ((wk, oB 21 [.ref sp, .ref cx, .ref wa, .ref rm, .ref (ra (kL k)), .int (zI h8)]) :: (sp, oB 22 [.int (zI p8), .int (zI q8)]) :: (cx, oB 23 [.ref cl9, va_rf al9, va_rf be9]) :: Z) s H locs := hG
            refine lv_aload_n hx hb dX23_step_49 rfl (lv_at hl 0 rfl) ?_
            refine lv_aload_n hx hb dX23_step_50 rfl (lv_at hl 1 rfl) ?_
            refine g_put (ci := 21) hx hb hts in_X23 tyX23 tyX23_ok nmX23 hown hG 0 rfl rfl 4 (Nat.le_of_ble_eq_true rfl) (hts _ q2335) (fun _ h9 => h9) rfl (tyX23_ok 4 (Nat.le_of_ble_eq_true rfl)) rfl rfl (Nat.le_of_ble_eq_true rfl) dX23_step_51 (fun H locs (hG : gW X G2 V ((wk, oB 21 [.ref sp, .ref cx, .ref wa, .ref rm, .ref (ra b), .int (zI h8)]) :: (sp, oB 22 [.int (zI p8), .int (zI q8)]) :: (cx, oB 23 [.ref cl9, va_rf al9, va_rf be9]) :: Z) s H locs) => ?_)
            exact g_vret hx hb hr hlocks hG (⟨(hle_G1.tr hle_G2), rfl, h8, p8, q8, cl9, al9, be9, by rw [wkStep_b (Or.inr (by rw [hcm]; exact goesK_6n hf9))]; exact hbk.wk hb9 hk4 (hcx9.mono hle_G2), rfl⟩) ⟨by show _ ≤ 34; omega, by show _ ≤ 814; omega⟩ dX23_step_54
          · exfalso; omega
        · have hG : gW X G2 V ((sp, oB 22 [.int (zI (x : Int)), .int (zI ((((wTx w b).length - 1) : Nat) : Int))]) :: (wk, oB 21 [.ref sp, .ref cx, .ref wa, .ref rm, .ref (ra (kL k)), .int (zI h9)]) :: (cx, oB 23 [.ref cl9, va_rf al9, va_rf be9]) :: Z) s H locs := hG
          refine g_eq (tgt := 44) hx hb dX23_step_33 (by decide) (by decide) (fun h2 => ?_) (fun h2 => ?_)
          · exfalso; omega
          · refine lv_aload_n hx hb dX23_step_36 rfl (lv_at hl 0 rfl) ?_
            refine lv_iconst (v := zI 1) hx hb dX23_step_37 (by decide +kernel) ?_
            refine g_put (ci := 21) hx hb hts in_X23 tyX23 tyX23_ok nmX23 hown hG 1 rfl rfl 5 (Nat.le_of_ble_eq_true rfl) (hts _ q2336) (fun _ h9 => h9) rfl (tyX23_ok 5 (Nat.le_of_ble_eq_true rfl)) rfl rfl (Nat.le_of_ble_eq_true rfl) dX23_step_38 (fun H locs (hG : gW X G2 V ((sp, oB 22 [.int (zI (x : Int)), .int (zI ((((wTx w b).length - 1) : Nat) : Int))]) :: (wk, oB 21 [.ref sp, .ref cx, .ref wa, .ref rm, .ref (ra (kL k)), .int (zI 1)]) :: (cx, oB 23 [.ref cl9, va_rf al9, va_rf be9]) :: Z) s H locs) => ?_)
            refine lv_goto (tgt := 49) hx hb dX23_step_41 (by decide) ?_
            refine lv_aload_n hx hb dX23_step_49 rfl (lv_at hl 0 rfl) ?_
            refine lv_aload_n hx hb dX23_step_50 rfl (lv_at hl 1 rfl) ?_
            refine g_put (ci := 21) hx hb hts in_X23 tyX23 tyX23_ok nmX23 hown hG 1 rfl rfl 4 (Nat.le_of_ble_eq_true rfl) (hts _ q2335) (fun _ h9 => h9) rfl (tyX23_ok 4 (Nat.le_of_ble_eq_true rfl)) rfl rfl (Nat.le_of_ble_eq_true rfl) dX23_step_51 (fun H locs (hG : gW X G2 V ((sp, oB 22 [.int (zI (x : Int)), .int (zI ((((wTx w b).length - 1) : Nat) : Int))]) :: (wk, oB 21 [.ref sp, .ref cx, .ref wa, .ref rm, .ref (ra b), .int (zI 1)]) :: (cx, oB 23 [.ref cl9, va_rf al9, va_rf be9]) :: Z) s H locs) => ?_)
            have hG : gW X G2 V ((cx, oB 23 [.ref cl9, va_rf al9, va_rf be9]) :: (sp, oB 22 [.int (zI (x : Int)), .int (zI ((((wTx w b).length - 1) : Nat) : Int))]) :: (wk, oB 21 [.ref sp, .ref cx, .ref wa, .ref rm, .ref (ra b), .int (zI 1)]) :: Z) s _ _ := hG.pull 2 rfl rfl
            have hG : gW X G2 V ((sp, oB 22 [.int (zI (x : Int)), .int (zI ((((wTx w b).length - 1) : Nat) : Int))]) :: (cx, oB 23 [.ref cl9, va_rf al9, va_rf be9]) :: (wk, oB 21 [.ref sp, .ref cx, .ref wa, .ref rm, .ref (ra b), .int (zI 1)]) :: Z) s _ _ := hG.pull 1 rfl rfl
            have hG : gW X G2 V ((wk, oB 21 [.ref sp, .ref cx, .ref wa, .ref rm, .ref (ra b), .int (zI 1)]) :: (sp, oB 22 [.int (zI (x : Int)), .int (zI ((((wTx w b).length - 1) : Nat) : Int))]) :: (cx, oB 23 [.ref cl9, va_rf al9, va_rf be9]) :: Z) s _ _ := hG.pull 2 rfl rfl
            exact g_vret hx hb hr hlocks hG (⟨(hle_G1.tr hle_G2), rfl, 1, ((x : Nat) : Int), ((((wTx w b).length - 1) : Nat) : Int), cl9, al9, be9, xWk_to (o := 1) (wkStep_1 (by omega) (by rw [hcm]; exact (goesK_6s hf9))) (by decide) hb9 (hxy _ _ (goesK_6s hf9)), rfl⟩) ⟨by show _ ≤ 34; omega, by show _ ≤ 814; omega⟩ dX23_step_54

