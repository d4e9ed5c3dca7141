set_option maxRecDepth 100000
theorem alT_app {X : gX} {F G : gF} {L : List Nat} {t : Tx} {b : Nat} {c : Ln} (h : alT X F L t) (hl : gLe F G) (hb : isLine X G b c) : alT X G (L ++ [b]) (t ++ [c]) := by
  obtain ⟨h1, h2⟩ := h
  refine ⟨by rw [List.length_append, List.length_append, h1]; rfl, fun i hi => ?_⟩
  rw [List.length_append] at hi
  have hi : i < t.length + 1 := hi
  by_cases e : i < t.length
  · rw [List.getD_eq_getElem?_getD, List.getElem?_append_left (by omega), List.getD_eq_getElem?_getD, List.getElem?_append_left e, ← List.getD_eq_getElem?_getD, ← List.getD_eq_getElem?_getD]
    exact (h2 i e).mono hl
  · have e : i = t.length := by omega
    subst e
    rw [List.getD_eq_getElem?_getD, ← h1, List.getElem?_append_right (Nat.le_refl _), Nat.sub_self, List.getD_eq_getElem?_getD, h1, List.getElem?_append_right (Nat.le_refl _), Nat.sub_self]
    exact hb
theorem alT_nil {X : gX} {F : gF} : alT X F [] [] := ⟨rfl, fun i hi => absurd hi (Nat.not_lt_zero _)⟩
theorem getD_app1 {t : List Nat} {x j : Nat} (hj : j < t.length + 1) {f : Nat → Int32} {y : Int32} (h : ∀ i, i < t.length → f i = zI (t.getD i 0 : Nat)) (hy : y = zI (x : Nat)) : upd f t.length y j = zI ((t ++ [x]).getD j 0 : Nat) := by
  unfold upd
  by_cases e : j = t.length
  · rw [if_pos e, hy, e, List.getD_eq_getElem?_getD, List.getElem?_append_right (Nat.le_refl _), Nat.sub_self]; rfl
  · rw [if_neg e, h j (by omega), List.getD_eq_getElem?_getD, List.getD_eq_getElem?_getD, List.getElem?_append_left (by omega)]
set_option maxHeartbeats 4000000 in
theorem metX11_init {l : Launch} {X : gX} {F : gF} {V : gV} {Z : va_W} {rd ro : Nat} : Met l yX11_init (ws_ yX11_init cX11_init 2 none) ({ frames := 4, cells := 3, slots := 30, locals := 80 }) (gP X F V ((rd, oB 9 [.null, .null, .null, .int (zI 0)]) :: Z) [.ref rd, .ref ro]) (gQv X (fun G U ws => F = G ∧ V = U ∧ ∃ le al : Nat, ((rd, oB 9 [.ref ro, .ref le, .ref al, .int (zI 0)]) :: (le, aI (gT X 2) 8 (fun _ => 0)) :: (al, oB 25 [.int (zI 0), .ref (ga X 300), .int (zI 0)]) :: Z) = ws)) 3 30 (gA X) := by
  refine Met.g (by decide) (Nat.le_of_ble_eq_true rfl) ?_
  intro p e s m below meth c ls hx hb hr hts hown hlocks hml hin hG hl
  have hl : lv_has ls 2 [(0, .ref rd), (1, .ref ro)] := hl
  refine lv_aload_n hx hb dX11_init_0 rfl (lv_at hl 0 rfl) ?_
  refine W.objInit hx hb hown (hts _ q750) (hts _ q170) (hts _ q171) rfl (by rw [hml]; exact hl.1) rfl dX11_init_1 (Nat.le_of_ble_eq_true rfl) (Nat.le_of_ble_eq_true rfl) ?_
  refine W.eq (g2 := F0 m 4 ls []) rfl ?_
  refine lv_aload_n hx hb dX11_init_4 rfl (lv_at hl 0 rfl) ?_
  refine lv_bipush (v := zI 8) hx hb dX11_init_5 (by decide +kernel) ?_
  refine g_newa (atype := .char) hx hb (hts _ q781) 2 rfl rfl (fun h => h) hG (N := 8) (a0 := (8, .inl (fun _ => 0))) (fun _ => rfl) ⟨rfl, by omega⟩ (by decide) ⟨by show _ ≤ 3; omega, by show _ ≤ 30; omega⟩ dX11_init_7 (fun le H (hG : gW X F V ((le, aI (gT X 2) 8 (fun _ => 0)) :: (rd, oB 9 [.null, .null, .null, .int (zI 0)]) :: Z) s H _) => ?_)
  refine g_putF (ci := 9) hx hb hts in_X11 tyX11 tyX11_ok nmX11 hown hin hG 1 rfl rfl 1 (Nat.le_of_ble_eq_true rfl) (hts _ q783) (fun _ h9 => h9) rfl rfl (tyX11_ok 1 (Nat.le_of_ble_eq_true rfl)) rfl rfl (Nat.le_of_ble_eq_true rfl) dX11_init_9 (fun H locs (hG : gW X F V ((le, aI (gT X 2) 8 (fun _ => 0)) :: (rd, oB 9 [.null, .ref le, .null, .int (zI 0)]) :: Z) s H locs) => ?_)
  refine lv_aload_n hx hb dX11_init_12 rfl (lv_at hl 0 rfl) ?_
  refine g_new (ci := 25) hx hb hts in_J19 tyJ19 tyJ19_ok hown (hts _ q751) (hts _ q752) (hts _ q120) hG rfl (fs := [.int (zI 0), .null, .int (zI 0)]) rfl ⟨Nat.le_of_ble_eq_true rfl, Nat.le_of_ble_eq_true rfl⟩ dX11_init_13 (fun al H (hG : gW X F V ((al, oB 25 [.int (zI 0), .null, .int (zI 0)]) :: (le, aI (gT X 2) 8 (fun _ => 0)) :: (rd, oB 9 [.null, .ref le, .null, .int (zI 0)]) :: Z) s H _) => ?_)
  refine lv_dup hx hb dX11_init_16 rfl ?_
  refine g_cv (va_runI (As := []) (rest := [.ref al, .ref rd]) ⟨hx, hb, hml, hown, hts⟩ (metJ19_init) (cwI 0 hts (lw_meth q755) rfl rfl rfl (hts _ q120) (hts _ q753) (hts _ q754) rfl (by decide +kernel) ⟨Nat.le_of_ble_eq_true rfl, Nat.le_of_ble_eq_true rfl⟩) (g_preS hG) rfl rfl hl.1 rfl (lv_room (Nat.le_of_ble_eq_true rfl)) dX11_init_17 ⟨by show _ ≤ 3; omega, by show _ ≤ 30; omega⟩) hG (fun F_2 V_3 ws_ H locs hp hG => ?_)
  obtain ⟨rfl, rfl, rfl⟩ := hp
  have hG : gW X F V ((al, oB 25 [.int (zI 0), .ref (ga X 300), .int (zI 0)]) :: (le, aI (gT X 2) 8 (fun _ => 0)) :: (rd, oB 9 [.null, .ref le, .null, .int (zI 0)]) :: Z) s H locs := hG
  refine g_putF (ci := 9) hx hb hts in_X11 tyX11 tyX11_ok nmX11 hown hin hG 2 rfl rfl 2 (Nat.le_of_ble_eq_true rfl) (hts _ q784) (fun _ h9 => h9) rfl rfl (tyX11_ok 2 (Nat.le_of_ble_eq_true rfl)) rfl rfl (Nat.le_of_ble_eq_true rfl) dX11_init_20 (fun H locs (hG : gW X F V ((al, oB 25 [.int (zI 0), .ref (ga X 300), .int (zI 0)]) :: (le, aI (gT X 2) 8 (fun _ => 0)) :: (rd, oB 9 [.null, .ref le, .ref al, .int (zI 0)]) :: Z) s H locs) => ?_)
  refine lv_aload_n hx hb dX11_init_23 rfl (lv_at hl 0 rfl) ?_
  refine lv_aload_n hx hb dX11_init_24 rfl (lv_at hl 1 rfl) ?_
  refine g_putF (ci := 9) hx hb hts in_X11 tyX11 tyX11_ok nmX11 hown hin hG 2 rfl rfl 0 (Nat.le_of_ble_eq_true rfl) (hts _ q782) (fun _ h9 => h9) rfl rfl (tyX11_ok 0 (Nat.le_of_ble_eq_true rfl)) rfl rfl (Nat.le_of_ble_eq_true rfl) dX11_init_25 (fun H locs (hG : gW X F V ((al, oB 25 [.int (zI 0), .ref (ga X 300), .int (zI 0)]) :: (le, aI (gT X 2) 8 (fun _ => 0)) :: (rd, oB 9 [.ref ro, .ref le, .ref al, .int (zI 0)]) :: Z) s H locs) => ?_)
  have hG : gW X F V ((le, aI (gT X 2) 8 (fun _ => 0)) :: (al, oB 25 [.int (zI 0), .ref (ga X 300), .int (zI 0)]) :: (rd, oB 9 [.ref ro, .ref le, .ref al, .int (zI 0)]) :: Z) s _ _ := hG.pull 1 rfl rfl
  have hG : gW X F V ((rd, oB 9 [.ref ro, .ref le, .ref al, .int (zI 0)]) :: (le, aI (gT X 2) 8 (fun _ => 0)) :: (al, oB 25 [.int (zI 0), .ref (ga X 300), .int (zI 0)]) :: Z) s _ _ := hG.pull 2 rfl rfl
  exact g_vret hx hb hr hlocks hG (⟨rfl, rfl, le, al, rfl⟩) ⟨by show _ ≤ 3; omega, by show _ ≤ 30; omega⟩ dX11_init_28

set_option maxHeartbeats 4000000 in
theorem metX11_ends {l : Launch} {X : gX} {F : gF} {V : gV} {Z : va_W} {rd le al i : Nat} {ro ar n so rj : Nat} {f : Nat → Int64} (hso : so ≤ 3) (hro : F.1 ro = some (oB (5 + so) [.ref ar])) (hVr : V rj = some (ar, rwE X so n f)) (hfx : ∀ j, j < n → aTrunc so (f j) = f j) (hn160 : n ≤ 160) (hi9 : i ≤ n) : Met l yX11_ends (ws_ yX11_ends cX11_ends 1 (some FieldType.boolean)) ({ frames := 1, cells := 0, slots := 0, locals := 20 }) (gP X F V ((rd, oB 9 [.ref ro, .ref le, .ref al, .int (zI (i : Int))]) :: Z) [.ref rd]) (gQi X (fun u G U ws => u = zI (bI (decide (i = n))) ∧ F = G ∧ V = U ∧ ((rd, oB 9 [.ref ro, .ref le, .ref al, .int (zI (i : Int))]) :: Z) = ws)) 0 0 (gA X) := by
  refine Met.g (by decide) (Nat.le_of_ble_eq_true rfl) ?_
  intro p e s m below meth c ls hx hb hr hts hown hlocks hml hin hG hl
  have hl : lv_has ls 1 [(0, .ref rd)] := hl
  refine lv_aload_n hx hb dX11_ends_0 rfl (lv_at hl 0 rfl) ?_
  refine g_get (ci := 9) hx hb hts in_X11 hown hG (hG.at 0 rfl) rfl 3 (Nat.le_of_ble_eq_true rfl) (hts _ q785) (fun _ h9 => h9) rfl dX11_ends_1 ?_
  refine lv_aload_n hx hb dX11_ends_4 rfl (lv_at hl 0 rfl) ?_
  refine g_get (ci := 9) hx hb hts in_X11 hown hG (hG.at 0 rfl) rfl 0 (Nat.le_of_ble_eq_true rfl) (hts _ q782) (fun _ h9 => h9) rfl dX11_ends_5 ?_
  refine g_ci (run_row_length hso hro hVr ⟨hx, hb, hml, hown, hts⟩ q803 hG ⟨Nat.le_of_ble_eq_true rfl, Nat.le_of_ble_eq_true rfl⟩ hl.1 (lv_room (Nat.le_of_ble_eq_true rfl)) dX11_ends_8 ⟨Nat.le_of_ble_eq_true rfl, Nat.le_of_ble_eq_true rfl⟩) hG (fun r_1 F_2 V_3 ws_ H locs hp hG => ?_)
  obtain ⟨rfl, rfl, rfl, rfl⟩ := hp
  have hG : gW X F V ((rd, oB 9 [.ref ro, .ref le, .ref al, .int (zI (i : Int))]) :: Z) s H locs := hG
  refine g_cne (tgt := 18) hx hb dX11_ends_11 (by decide) (by omega) (fun h1 => ?_) (fun h1 => ?_)
  · refine lv_iconst (v := zI 0) hx hb dX11_ends_18 (by decide +kernel) ?_
    exact g_zret hx hb hr hlocks rfl hG (⟨by rw [decide_eq_false (by omega)]; rfl, rfl, rfl, rfl⟩) ⟨Nat.le_of_ble_eq_true rfl, Nat.le_of_ble_eq_true rfl⟩ dX11_ends_19
  · refine lv_iconst (v := zI 1) hx hb dX11_ends_14 (by decide +kernel) ?_
    refine lv_goto (tgt := 19) hx hb dX11_ends_15 (by decide) ?_
    exact g_zret hx hb hr hlocks rfl hG (⟨by rw [decide_eq_true (by omega)]; rfl, rfl, rfl, rfl⟩) ⟨Nat.le_of_ble_eq_true rfl, Nat.le_of_ble_eq_true rfl⟩ dX11_ends_19

set_option maxHeartbeats 4000000 in
theorem metX11_letter {l : Launch} {X : gX} {F : gF} {V : gV} {Z : va_W} {rd le al i : Nat} {ro ar n so rj : Nat} {f : Nat → Int64} (hso : so ≤ 3) (hro : F.1 ro = some (oB (5 + so) [.ref ar])) (hVr : V rj = some (ar, rwE X so n f)) (hfx : ∀ j, j < n → aTrunc so (f j) = f j) (hn160 : n ≤ 160) (hi9 : i ≤ n) : Met l yX11_letter (ws_ yX11_letter cX11_letter 1 (some FieldType.boolean)) ({ frames := 2, cells := 0, slots := 0, locals := 42 }) (gP X F V ((rd, oB 9 [.ref ro, .ref le, .ref al, .int (zI (i : Int))]) :: Z) [.ref rd]) (gQi X (fun u G U ws => u = zI (bI (decide (i < n ∧ 97 ≤ rwI f i ∧ rwI f i ≤ 122))) ∧ F = G ∧ V = U ∧ ((rd, oB 9 [.ref ro, .ref le, .ref al, .int (zI (i : Int))]) :: Z) = ws)) 0 0 (gA X) := by
  refine Met.g (by decide) (Nat.le_of_ble_eq_true rfl) ?_
  intro p e s m below meth c ls hx hb hr hts hown hlocks hml hin hG hl
  have hl : lv_has ls 1 [(0, .ref rd)] := hl
  refine lv_aload_n hx hb dX11_letter_0 rfl (lv_at hl 0 rfl) ?_
  refine g_ci (va_runV (As := []) (rest := []) ⟨hx, hb, hml, hown, hts⟩ (metX11_ends hso hro hVr hfx hn160 hi9) (cwV 0 hts (lw_V q799 q801 qs5 q118 q802) rfl rfl rfl (by decide +kernel) ⟨Nat.le_of_ble_eq_true rfl, Nat.le_of_ble_eq_true rfl⟩) (g_preV hG (g_recv hG (hG.at 0 rfl) (ci := 9) rfl)) rfl rfl hl.1 rfl (lv_room (Nat.le_of_ble_eq_true rfl)) dX11_letter_1 ⟨Nat.le_of_ble_eq_true rfl, Nat.le_of_ble_eq_true rfl⟩) hG (fun r_1 F_2 V_3 ws_ H locs hp hG => ?_)
  obtain ⟨rfl, rfl, rfl, rfl⟩ := hp
  have hG : gW X F V ((rd, oB 9 [.ref ro, .ref le, .ref al, .int (zI (i : Int))]) :: Z) s H locs := hG
  by_cases hin : i = n
  · refine g_topz (y := 1) (by rw [decide_eq_true hin]; rfl) ?_
    refine g_ne (tgt := 43) hx hb dX11_letter_4 (by decide) (by decide) (fun hq => ?_) (fun hq => ?_)
    · refine lv_iconst (v := zI 0) hx hb dX11_letter_43 (by decide +kernel) ?_
      exact g_zret hx hb hr hlocks rfl hG (⟨by rw [decide_eq_false (by omega)]; rfl, rfl, rfl, rfl⟩) ⟨Nat.le_of_ble_eq_true rfl, Nat.le_of_ble_eq_true rfl⟩ dX11_letter_44
    · exfalso; omega
  · refine g_topz (y := 0) (by rw [decide_eq_false hin]; rfl) ?_
    have hrg := rwI_R f i
    refine g_ne (tgt := 43) hx hb dX11_letter_4 (by decide) (by decide) (fun hq => ?_) (fun hq => ?_)
    · exfalso; omega
    · refine lv_aload_n hx hb dX11_letter_7 rfl (lv_at hl 0 rfl) ?_
      refine g_get (ci := 9) hx hb hts in_X11 hown hG (hG.at 0 rfl) rfl 0 (Nat.le_of_ble_eq_true rfl) (hts _ q782) (fun _ h9 => h9) rfl dX11_letter_8 ?_
      refine lv_aload_n hx hb dX11_letter_11 rfl (lv_at hl 0 rfl) ?_
      refine g_get (ci := 9) hx hb hts in_X11 hown hG (hG.at 0 rfl) rfl 3 (Nat.le_of_ble_eq_true rfl) (hts _ q785) (fun _ h9 => h9) rfl dX11_letter_12 ?_
      refine g_ci (run_row_asInt hso hro hVr (i := i) (by omega) (hfx i (by omega)) ⟨hx, hb, hml, hown, hts⟩ q826 hG ⟨Nat.le_of_ble_eq_true rfl, Nat.le_of_ble_eq_true rfl⟩ hl.1 (lv_room (Nat.le_of_ble_eq_true rfl)) dX11_letter_15 ⟨Nat.le_of_ble_eq_true rfl, Nat.le_of_ble_eq_true rfl⟩) hG (fun r_4 F_5 V_6 ws_ H locs hp hG => ?_)
      obtain ⟨rfl, rfl, rfl, rfl⟩ := hp
      have hG : gW X F V ((rd, oB 9 [.ref ro, .ref le, .ref al, .int (zI (i : Int))]) :: Z) s H locs := hG
      refine lv_topx (zI (rwI f i)) (rwI_z _ _) ?_
      refine lv_bipush (v := zI 97) hx hb dX11_letter_18 (by decide +kernel) ?_
      refine g_clt (tgt := 43) hx hb dX11_letter_20 (by decide) (by omega) (fun h1 => ?_) (fun h1 => ?_)
      · refine lv_iconst (v := zI 0) hx hb dX11_letter_43 (by decide +kernel) ?_
        exact g_zret hx hb hr hlocks rfl hG (⟨by rw [decide_eq_false (by omega)]; rfl, rfl, rfl, rfl⟩) ⟨Nat.le_of_ble_eq_true rfl, Nat.le_of_ble_eq_true rfl⟩ dX11_letter_44
      · refine lv_aload_n hx hb dX11_letter_23 rfl (lv_at hl 0 rfl) ?_
        refine g_get (ci := 9) hx hb hts in_X11 hown hG (hG.at 0 rfl) rfl 0 (Nat.le_of_ble_eq_true rfl) (hts _ q782) (fun _ h9 => h9) rfl dX11_letter_24 ?_
        refine lv_aload_n hx hb dX11_letter_27 rfl (lv_at hl 0 rfl) ?_
        refine g_get (ci := 9) hx hb hts in_X11 hown hG (hG.at 0 rfl) rfl 3 (Nat.le_of_ble_eq_true rfl) (hts _ q785) (fun _ h9 => h9) rfl dX11_letter_28 ?_
        refine g_ci (run_row_asInt hso hro hVr (i := i) (by omega) (hfx i (by omega)) ⟨hx, hb, hml, hown, hts⟩ q826 hG ⟨Nat.le_of_ble_eq_true rfl, Nat.le_of_ble_eq_true rfl⟩ hl.1 (lv_room (Nat.le_of_ble_eq_true rfl)) dX11_letter_31 ⟨Nat.le_of_ble_eq_true rfl, Nat.le_of_ble_eq_true rfl⟩) hG (fun r_7 F_8 V_9 ws_ H locs hp hG => ?_)
        obtain ⟨rfl, rfl, rfl, rfl⟩ := hp
        have hG : gW X F V ((rd, oB 9 [.ref ro, .ref le, .ref al, .int (zI (i : Int))]) :: Z) s H locs := hG
        refine lv_topx (zI (rwI f i)) (rwI_z _ _) ?_
        refine lv_bipush (v := zI 122) hx hb dX11_letter_34 (by decide +kernel) ?_
        refine g_cgt (tgt := 43) hx hb dX11_letter_36 (by decide) (by omega) (fun h2 => ?_) (fun h2 => ?_)
        · refine lv_iconst (v := zI 0) hx hb dX11_letter_43 (by decide +kernel) ?_
          exact g_zret hx hb hr hlocks rfl hG (⟨by rw [decide_eq_false (by omega)]; rfl, rfl, rfl, rfl⟩) ⟨Nat.le_of_ble_eq_true rfl, Nat.le_of_ble_eq_true rfl⟩ dX11_letter_44
        · refine lv_iconst (v := zI 1) hx hb dX11_letter_39 (by decide +kernel) ?_
          refine lv_goto (tgt := 44) hx hb dX11_letter_40 (by decide) ?_
          exact g_zret hx hb hr hlocks rfl hG (⟨by rw [decide_eq_true (by omega)]; rfl, rfl, rfl, rfl⟩) ⟨Nat.le_of_ble_eq_true rfl, Nat.le_of_ble_eq_true rfl⟩ dX11_letter_44

set_option maxHeartbeats 4000000 in
theorem metX11_holds_t {l : Launch} {X : gX} {F : gF} {V : gV} {Z : va_W} {rd ro le al i : Nat} {b : Int} (hb0 : b ≠ 0 ∧ -2147483648 ≤ b ∧ b < 2147483648) : Met l yX11_holds (ws_ yX11_holds cX11_holds 2 none) ({ frames := 0, cells := 0, slots := 0, locals := 0 }) (gP X F V ((rd, oB 9 [.ref ro, .ref le, .ref al, .int (zI (i : Int))]) :: Z) [.ref rd, .int (zI b)]) (gQv X (fun G U ws => F = G ∧ V = U ∧ ((rd, oB 9 [.ref ro, .ref le, .ref al, .int (zI (i : Int))]) :: Z) = ws)) 0 0 (gA X) := by
  refine Met.g (by decide) (Nat.le_of_ble_eq_true rfl) ?_
  intro p e s m below meth c ls hx hb hr hts hown hlocks hml hin hG hl
  have hl : lv_has ls 2 [(0, .ref rd), (1, .int (zI b))] := hl
  refine lv_iload_n hx hb dX11_holds_0 rfl (lv_at hl 1 rfl) ?_
  refine g_ne (tgt := 16) hx hb dX11_holds_1 (by decide) (by omega) (fun h1 => ?_) (fun h1 => ?_)
  · exact g_vret hx hb hr hlocks hG (⟨rfl, rfl, rfl⟩) ⟨Nat.le_of_ble_eq_true rfl, Nat.le_of_ble_eq_true rfl⟩ dX11_holds_16
  · exfalso; omega

set_option maxHeartbeats 4000000 in
theorem metX11_holds_f {l : Launch} {X : gX} {F : gF} {V : gV} {Z : va_W} {rd ro le al i : Nat} (hi9 : i < 1000) : vx_Met l yX11_holds (ws_ yX11_holds cX11_holds 2 none) ({ frames := 4, cells := 1, slots := 7, locals := 89 }) (gP X F V ((rd, oB 9 [.ref ro, .ref le, .ref al, .int (zI (i : Int))]) :: Z) [.ref rd, .int (zI 0)]) (gQv X (fun _ _ _ => False)) (gXc X (fun E q G U ws => E = "LineRemarks$Faulty" ∧ gLe F G ∧ isFau G q i ∧ V = U ∧ ((rd, oB 9 [.ref ro, .ref le, .ref al, .int (zI (i : Int))]) :: Z) = ws)) 1 7 (gA X) := by
  refine vx_Met.g (by decide) (Nat.le_of_ble_eq_true rfl) ?_
  intro p e s m below meth c ls hx hb hr hts hown hlocks hml hin hnt hG hl
  have hl : lv_has ls 2 [(0, .ref rd), (1, .int (zI 0))] := hl
  refine lv_iload_n hx hb dX11_holds_0 rfl (lv_at hl 1 rfl) ?_
  refine g_ne (tgt := 16) hx hb dX11_holds_1 (by decide) (by decide) (fun h1 => ?_) (fun h1 => ?_)
  · exfalso; omega
  · refine g_new (ci := 10) hx hb hts in_X12 tyX12 tyX12_ok hown (hts _ q839) (hts _ q840) (hts _ q121) hG rfl (fs := [.null, .null, .null, .null, .null, .int (zI 0), .int (zI 0)]) rfl ⟨Nat.le_of_ble_eq_true rfl, Nat.le_of_ble_eq_true rfl⟩ dX11_holds_4 (fun q9 H (hG : gW X F V ((q9, oB 10 [.null, .null, .null, .null, .null, .int (zI 0), .int (zI 0)]) :: (rd, oB 9 [.ref ro, .ref le, .ref al, .int (zI (i : Int))]) :: Z) s H _) => ?_)
    refine lv_dup hx hb dX11_holds_7 rfl ?_
    refine lv_aload_n hx hb dX11_holds_8 rfl (lv_at hl 0 rfl) ?_
    refine g_get (ci := 9) hx hb hts in_X11 hown hG (hG.at 1 rfl) rfl 3 (Nat.le_of_ble_eq_true rfl) (hts _ q785) (fun _ h9 => h9) rfl dX11_holds_9 ?_
    refine g_cv (va_runI (As := [.int (zI (i : Int))]) (rest := [.ref q9]) ⟨hx, hb, hml, hown, hts⟩ (metX12_init) (cwI 1 hts (lw_meth q850) rfl rfl rfl (hts _ q121) (hts _ q848) (hts _ q849) rfl (by decide +kernel) ⟨Nat.le_of_ble_eq_true rfl, Nat.le_of_ble_eq_true rfl⟩) (g_preS hG) rfl rfl hl.1 rfl (lv_room (Nat.le_of_ble_eq_true rfl)) dX11_holds_12 ⟨Nat.le_of_ble_eq_true rfl, Nat.le_of_ble_eq_true rfl⟩) hG (fun F_2 V_3 ws_ H locs hp hG => ?_)
    obtain ⟨rfl, rfl, rfl⟩ := hp
    have hG : gW X F V ((q9, oB 10 [.null, .null, .null, .null, .null, .int (zI 0), .int (zI (i : Int))]) :: (rd, oB 9 [.ref ro, .ref le, .ref al, .int (zI (i : Int))]) :: Z) s H locs := hG
    obtain ⟨G9, hle_G9, hq9, hG⟩ := hG.freeze
    have hG : gW X G9 V ((rd, oB 9 [.ref ro, .ref le, .ref al, .int (zI (i : Int))]) :: Z) s _ _ := hG
    refine vx_athrow hx hb dX11_holds_15 ?_
    have hq9 : isFau G9 q9 i := hq9
    obtain ⟨ce9, hce⟩ := ex_cell hG hq9 (k := (RX12, TX12, 7)) rfl
    exact g_out hown hlocks (fun z9 hz9 => (hnt z9 hz9).elim) hG hce (⟨rfl, hle_G9, hq9, rfl, rfl⟩) ⟨Nat.le_of_ble_eq_true rfl, Nat.le_of_ble_eq_true rfl⟩

