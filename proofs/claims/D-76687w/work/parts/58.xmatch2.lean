set_option maxRecDepth 100000
theorem tbR_at2 {X : gX} {a n k i : Nat} {g : Nat → Nat → Int32} {Z : va_W} {x y : Nat × va_E} (hi : i < n) : (x :: y :: (tbR X a n k g ++ Z))[i + 2]? = some (a + 1 + i, aI (gT X 0) k (g i)) := by
  rw [List.getElem?_cons_succ, List.getElem?_cons_succ]; exact tbR_at hi
theorem tbR_set2 {X : gX} {a n k i : Nat} {g : Nat → Nat → Int32} {Z : va_W} {x y : Nat × va_E} (hi : i < n) (f : Nat → Int32) : (x :: y :: (tbR X a n k g ++ Z)).set (i + 2) (a + 1 + i, aI (gT X 0) k f) = x :: y :: (tbR X a n k (va_up g i f) ++ Z) := by
  rw [List.set_cons_succ, List.set_cons_succ, tbR_set hi]
theorem tbR_at7 {X : gX} {a n k i : Nat} {g : Nat → Nat → Int32} {Z : va_W} {x1 x2 x3 x4 x5 x6 x7 : Nat × va_E} (hi : i < n) : (x1 :: x2 :: x3 :: x4 :: x5 :: x6 :: x7 :: (tbR X a n k g ++ Z))[i + 7]? = some (a + 1 + i, aI (gT X 0) k (g i)) := by
  rw [List.getElem?_cons_succ, List.getElem?_cons_succ, List.getElem?_cons_succ, List.getElem?_cons_succ, List.getElem?_cons_succ, List.getElem?_cons_succ, List.getElem?_cons_succ]; exact tbR_at hi
theorem lc_R {al : Nat → Nat → Bool} {n m i j : Nat} (h : n ≤ 24 ∧ m ≤ 24) : lc al n m i j ≤ 48 := by
  have := lc_le (al := al) (n := n) (m := m) ((n - i) + (m - j)) i j
  unfold lc; omega
set_option maxHeartbeats 4000000 in
theorem metX15_lengths {l : Launch} {X : gX} {F : gF} {V : gV} {Z : va_W} {mt a b : Nat} {v0 v1 v2 v3 v4 v7 v8 : Value} {ta tb : Tx} (hta : isText X F a ta) (htb : isText X F b tb) : Met l yX15_lengths (ws_ yX15_lengths cX15_lengths 4 (some (FieldType.array (FieldType.array FieldType.int)))) ({ frames := 1, cells := 26, slots := 650, locals := 22 }) (gP X F V ((mt, oB 13 [v0, v1, v2, v3, v4, .ref a, .ref b, v7, v8]) :: Z) [.ref mt]) (gQr X (fun q G U ws => F = G ∧ V = U ∧ ∃ g : Nat → Nat → Int32, (∀ i, i ≤ ta.length → ∀ j, j ≤ tb.length → g i j = zI ((lc (alk ta tb) ta.length tb.length i j : Nat) : Int)) ∧ ((q, aR (gT X 11) (ta.length + 1) (fun z => if z < ta.length + 1 then some (q + 1 + z) else none)) :: (mt, oB 13 [v0, v1, v2, v3, v4, .ref a, .ref b, v7, v8]) :: (tbR X q (ta.length + 1) (tb.length + 1) g ++ Z)) = ws)) 26 650 (gA X) := by
  refine Met.g (by decide) (Nat.le_of_ble_eq_true rfl) ?_
  intro p e s m below meth c ls hx hb hr hts hown hlocks hml hin hG hl
  have hl : lv_has ls 4 [(0, .ref mt)] := hl
  obtain ⟨ga, hga1, hga2, hga3⟩ := hta
  have hgal := hga2
  obtain ⟨gb, hgb1, hgb2, hgb3⟩ := htb
  have hgbl := hgb2
  have hnk : (ta.length + 1) * (tb.length + 1) ≤ 25 * 25 := Nat.mul_le_mul (by omega) (by omega)
  refine lv_aload_n hx hb dX15_lengths_0 rfl (lv_at hl 0 rfl) ?_
  refine g_get (ci := 13) hx hb hts in_X15 hown hG (hG.at 0 rfl) rfl 5 (Nat.le_of_ble_eq_true rfl) (hts _ q1918) (fun _ h9 => h9) rfl dX15_lengths_1 ?_
  refine g_alen hx hb hG 6 rfl (hG.fz hga1) dX15_lengths_4 ?_
  refine lv_iconst (v := zI 1) hx hb dX15_lengths_5 (by decide +kernel) ?_
  refine g_iadd hx hb dX15_lengths_6 ?_
  refine lv_aload_n hx hb dX15_lengths_7 rfl (lv_at hl 0 rfl) ?_
  refine g_get (ci := 13) hx hb hts in_X15 hown hG (hG.at 0 rfl) rfl 6 (Nat.le_of_ble_eq_true rfl) (hts _ q1919) (fun _ h9 => h9) rfl dX15_lengths_8 ?_
  refine g_alen hx hb hG 6 rfl (hG.fz hgb1) dX15_lengths_11 ?_
  refine lv_iconst (v := zI 1) hx hb dX15_lengths_12 (by decide +kernel) ?_
  refine g_iadd hx hb dX15_lengths_13 ?_
  refine g_multi hx hb hts hown (hts _ q1820) (hts _ q189) hG (ta.length + 1) (tb.length + 1) ⟨by omega, by omega, by omega, by omega⟩ ⟨by show _ ≤ 26; omega, by show _ ≤ 650; omega⟩ dX15_lengths_14 (fun q H hG => ?_)
  have hG : gW X F V ((q, aR (gT X 11) (ta.length + 1) (fun z => if z < ta.length + 1 then some (q + 1 + z) else none)) :: (mt, oB 13 [v0, v1, v2, v3, v4, .ref a, .ref b, v7, v8]) :: (tbR X q (ta.length + 1) (tb.length + 1) (fun _ _ => 0) ++ Z)) s _ _ := hG.perm ((List.perm_middle.symm).cons _)
  refine lv_astore_n (lv' := [(1, .ref q), (0, .ref mt)]) hx hb dX15_lengths_18 rfl hl (by decide) rfl (fun ls hl => ?_)
  refine lv_aload_n hx hb dX15_lengths_19 rfl (lv_at hl 1 rfl) ?_
  refine g_get (ci := 13) hx hb hts in_X15 hown hG (hG.at 1 rfl) rfl 5 (Nat.le_of_ble_eq_true rfl) (hts _ q1918) (fun _ h9 => h9) rfl dX15_lengths_20 ?_
  refine g_alen hx hb hG 6 rfl (hG.fz hga1) dX15_lengths_23 ?_
  refine lv_iconst (v := zI 1) hx hb dX15_lengths_24 (by decide +kernel) ?_
  refine g_isub hx hb dX15_lengths_25 ?_
  refine lv_istore_n (lv' := [(2, .int (zI ((ta.length : Nat) - 1))), (1, .ref q), (0, .ref mt)]) hx hb dX15_lengths_26 rfl hl (by decide) rfl (fun ls hl => ?_)
  have hl : lv_has ls 4 [(2, .int (zI ((ta.length : Int) - 1))), (1, .ref q), (0, .ref mt)] := by exact hl
  refine g_loop (fun mz H locs ls => ∃ (i : Nat) (g : Nat → Nat → Int32), (i ≤ ta.length ∧ mz = i ∧ (∀ x, i ≤ x → x ≤ ta.length → ∀ y, y ≤ tb.length → g x y = zI ((lc (alk ta tb) ta.length tb.length x y : Nat) : Int)) ∧ ∀ x, x < i → ∀ y, g x y = 0) ∧ gW X F V ((q, aR (gT X 11) (ta.length + 1) (fun z => if z < ta.length + 1 then some (q + 1 + z) else none)) :: (mt, oB 13 [v0, v1, v2, v3, v4, .ref a, .ref b, v7, v8]) :: (tbR X q (ta.length + 1) (tb.length + 1) g ++ Z)) s H locs ∧ lv_has ls 4 [(0, .ref mt), (1, .ref q), (2, .int (zI ((i : Int) - 1)))]) ta.length ⟨ta.length, (fun _ _ => 0), ⟨Nat.le_refl _, rfl, fun x hx1 hx2 y hy => by rw [lc_out (by omega)]; exact zI_0, fun _ _ _ => rfl⟩, hG, (lv_sub hl [2, 1, 0] rfl)⟩ (fun mz ihI H locs ls hI => ?_)
  obtain ⟨i, g, ⟨hil, hmi, h1, h3⟩, hG, hl⟩ := hI
  refine lv_iload_n hx hb dX15_lengths_27 rfl (lv_at hl 2 rfl) ?_
  refine g_lt (tgt := 109) hx hb dX15_lengths_28 (by decide) (by omega) (fun k3 => ?_) (fun k3 => ?_)
  · refine lv_aload_n hx hb dX15_lengths_109 rfl (lv_at hl 1 rfl) ?_
    exact g_rret hx hb hr (Or.inr ⟨_, rfl⟩) hlocks hG (⟨rfl, rfl, g, (fun i hi j hj => h1 i (by omega) hi j hj), rfl⟩) ⟨by show _ ≤ 26; omega, by show _ ≤ 650; omega⟩ dX15_lengths_110
  · obtain ⟨i, rfl⟩ : ∃ z, i = z + 1 := ⟨i - 1, by omega⟩
    have hl : lv_has ls 4 [(0, .ref mt), (1, .ref q), (2, .int (zI (i : Int)))] := by rw [show ((i + 1 : Nat) : Int) - 1 = (i : Int) by omega] at hl; exact hl
    refine lv_aload_n hx hb dX15_lengths_31 rfl (lv_at hl 0 rfl) ?_
    refine g_get (ci := 13) hx hb hts in_X15 hown hG (hG.at 1 rfl) rfl 6 (Nat.le_of_ble_eq_true rfl) (hts _ q1919) (fun _ h9 => h9) rfl dX15_lengths_32 ?_
    refine g_alen hx hb hG 6 rfl (hG.fz hgb1) dX15_lengths_35 ?_
    refine lv_iconst (v := zI 1) hx hb dX15_lengths_36 (by decide +kernel) ?_
    refine g_isub hx hb dX15_lengths_37 ?_
    refine lv_istore_n (lv' := [(3, .int (zI ((tb.length : Nat) - 1))), (0, .ref mt), (1, .ref q), (2, .int (zI (i : Int)))]) hx hb dX15_lengths_38 rfl hl (by decide) rfl (fun ls hl => ?_)
    have hl : lv_has ls 4 [(3, .int (zI ((tb.length : Int) - 1))), (0, .ref mt), (1, .ref q), (2, .int (zI (i : Int)))] := by exact hl
    refine g_loop (fun mz H locs ls => ∃ (t : Nat) (g : Nat → Nat → Int32), (t ≤ tb.length ∧ mz = t ∧ (∀ x, i < x → x ≤ ta.length → ∀ y, y ≤ tb.length → g x y = zI ((lc (alk ta tb) ta.length tb.length x y : Nat) : Int)) ∧ (∀ y, t ≤ y → y ≤ tb.length → g i y = zI ((lc (alk ta tb) ta.length tb.length i y : Nat) : Int)) ∧ ∀ x, x < i → ∀ y, g x y = 0) ∧ gW X F V ((q, aR (gT X 11) (ta.length + 1) (fun z => if z < ta.length + 1 then some (q + 1 + z) else none)) :: (mt, oB 13 [v0, v1, v2, v3, v4, .ref a, .ref b, v7, v8]) :: (tbR X q (ta.length + 1) (tb.length + 1) g ++ Z)) s H locs ∧ lv_has ls 4 [(0, .ref mt), (1, .ref q), (2, .int (zI (i : Int))), (3, .int (zI ((t : Int) - 1)))]) tb.length ⟨tb.length, g, ⟨Nat.le_refl _, rfl, fun x hx1 hx2 y hy => h1 x (by omega) hx2 y hy, fun y hy1 hy2 => by rw [h3 i (by omega) y, lc_out (by omega)]; exact zI_0, fun x hx y => h3 x (by omega) y⟩, hG, (lv_sub hl [1, 2, 3, 0] rfl)⟩ (fun mz ihJ H locs ls hI => ?_)
    obtain ⟨t, g, ⟨htl, hmt, h1, h2, h3⟩, hG, hl⟩ := hI
    refine lv_iload_n hx hb dX15_lengths_39 rfl (lv_at hl 3 rfl) ?_
    refine g_lt (tgt := 103) hx hb dX15_lengths_40 (by decide) (by omega) (fun k4 => ?_) (fun k4 => ?_)
    · have ht0 : t = 0 := by omega
      rw [ht0] at h2
      refine lv_iinc (v := zI ((i : Int) - 1 : Int)) (lv' := [(2, .int (zI ((i : Int) - 1 : Int))), (0, .ref mt), (1, .ref q), (3, .int (zI ((t : Int) - 1)))]) hx hb dX15_lengths_103 hl (k := 2) rfl ((zI_add _ _).trans (congrArg zI (by omega))) (by decide) rfl (fun ls hl => ?_)
      refine lv_goto (tgt := 27) hx hb dX15_lengths_106 (by decide) ?_
      exact ihI i (by omega) H locs ls ⟨i, g, ⟨by omega, rfl, fun x hx1 hx2 y hy => by by_cases hxi : x = i; (subst hxi; exact h2 y (Nat.zero_le _) hy); exact h1 x (by omega) hx2 y hy, fun x hx y => h3 x hx y⟩, hG, (lv_sub hl [1, 2, 0] rfl)⟩
    · obtain ⟨t, rfl⟩ : ∃ z, t = z + 1 := ⟨t - 1, by omega⟩
      have hl : lv_has ls 4 [(0, .ref mt), (1, .ref q), (2, .int (zI (i : Int))), (3, .int (zI (t : Int)))] := by rw [show ((t + 1 : Nat) : Int) - 1 = (t : Int) by omega] at hl; exact hl
      refine lv_aload_n hx hb dX15_lengths_43 rfl (lv_at hl 1 rfl) ?_
      refine lv_iload_n hx hb dX15_lengths_44 rfl (lv_at hl 2 rfl) ?_
      refine g_aald hx hb hG 11 rfl rfl (hG.at 0 rfl) i ⟨rfl, by omega, by omega⟩ (v := .ref (q + 1 + i)) (by show va_rf (if i < ta.length + 1 then some (q + 1 + i) else none) = _; rw [if_pos (by omega)]; rfl) dX15_lengths_45 ?_
      refine lv_iload_n hx hb dX15_lengths_46 rfl (lv_at hl 3 rfl) ?_
      refine lv_aload_n hx hb dX15_lengths_47 rfl (lv_at hl 0 rfl) ?_
      refine g_get (ci := 13) hx hb hts in_X15 hown hG (hG.at 1 rfl) rfl 5 (Nat.le_of_ble_eq_true rfl) (hts _ q1918) (fun _ h9 => h9) rfl dX15_lengths_48 ?_
      refine lv_iload_n hx hb dX15_lengths_51 rfl (lv_at hl 2 rfl) ?_
      obtain ⟨la, hla1, hla2⟩ := hga3 i (ta.getD i []) (gD_some (by omega))
      refine g_aald hx hb hG 6 rfl rfl (hG.fz hga1) i ⟨rfl, by omega, by omega⟩ (v := .ref la) (congrArg va_rf hla1) dX15_lengths_52 ?_
      refine lv_aload_n hx hb dX15_lengths_53 rfl (lv_at hl 0 rfl) ?_
      refine g_get (ci := 13) hx hb hts in_X15 hown hG (hG.at 1 rfl) rfl 6 (Nat.le_of_ble_eq_true rfl) (hts _ q1919) (fun _ h9 => h9) rfl dX15_lengths_54 ?_
      refine lv_iload_n hx hb dX15_lengths_57 rfl (lv_at hl 3 rfl) ?_
      obtain ⟨lb, hlb1, hlb2⟩ := hgb3 t (tb.getD t []) (gD_some (by omega))
      refine g_aald hx hb hG 6 rfl rfl (hG.fz hgb1) t ⟨rfl, by omega, by omega⟩ (v := .ref lb) (congrArg va_rf hlb1) dX15_lengths_58 ?_
      refine g_ci (va_runV (As := [.ref lb]) (rest := [.int (zI (t : Int)), .ref (q + 1 + i)]) ⟨hx, hb, hml, hown, hts⟩ (metX13_isAlike hla2 hlb2) (cwV 1 hts (lw_V q1822 q1823 q1824 q122 q1825) rfl rfl rfl (by decide +kernel) ⟨Nat.le_of_ble_eq_true rfl, Nat.le_of_ble_eq_true rfl⟩) (g_preV hG (hla2.recv hG)) rfl rfl hl.1 rfl (lv_room (Nat.le_of_ble_eq_true rfl)) dX15_lengths_59 ⟨by show _ ≤ 26; omega, by show _ ≤ 650; omega⟩) hG (fun r_1 F_2 V_3 ws_ H locs hp hG => ?_)
      obtain ⟨rfl, rfl, rfl, rfl⟩ := hp
      have hG : gW X F V ((q, aR (gT X 11) (ta.length + 1) (fun z => if z < ta.length + 1 then some (q + 1 + z) else none)) :: (mt, oB 13 [v0, v1, v2, v3, v4, .ref a, .ref b, v7, v8]) :: (tbR X q (ta.length + 1) (tb.length + 1) g ++ Z)) s H locs := hG
      refine g_topz (y := bI (alk ta tb i t)) alk_z ?_
      have hlc := @lc_in (alk ta tb) ta.length tb.length i t (by omega) (by omega)
      have hR4 := @lc_R (alk ta tb) ta.length tb.length (i + 1) (t + 1) ⟨by omega, by omega⟩
      have hR5 := @lc_R (alk ta tb) ta.length tb.length (i + 1) t ⟨by omega, by omega⟩
      have hR6 := @lc_R (alk ta tb) ta.length tb.length i (t + 1) ⟨by omega, by omega⟩
      refine g_eq (tgt := 79) hx hb dX15_lengths_62 (by decide) (by have := bI_R (alk ta tb i t); omega) (fun k5 => ?_) (fun k5 => ?_)
      · refine lv_aload_n hx hb dX15_lengths_79 rfl (lv_at hl 1 rfl) ?_
        refine lv_iload_n hx hb dX15_lengths_80 rfl (lv_at hl 2 rfl) ?_
        refine lv_iconst (v := zI 1) hx hb dX15_lengths_81 (by decide +kernel) ?_
        refine g_iadd hx hb dX15_lengths_82 ?_
        refine g_aald hx hb hG 11 rfl rfl (hG.at 0 rfl) (i + 1) ⟨rfl, by omega, by omega⟩ (v := .ref (q + 1 + (i + 1))) (by show va_rf (if (i + 1) < ta.length + 1 then some (q + 1 + (i + 1)) else none) = _; rw [if_pos (by omega)]; rfl) dX15_lengths_83 ?_
        refine lv_iload_n hx hb dX15_lengths_84 rfl (lv_at hl 3 rfl) ?_
        refine g_iald hx hb hG (hG.at ((i + 1) + 2) (tbR_at2 (by omega))) t ⟨by omega, by omega, by omega⟩ (v := zI ((lc (alk ta tb) ta.length tb.length (i + 1) t : Nat) : Int)) (h1 (i + 1) (by omega) (by omega) t (by omega)) dX15_lengths_85 ?_
        refine lv_aload_n hx hb dX15_lengths_86 rfl (lv_at hl 1 rfl) ?_
        refine lv_iload_n hx hb dX15_lengths_87 rfl (lv_at hl 2 rfl) ?_
        refine g_aald hx hb hG 11 rfl rfl (hG.at 0 rfl) i ⟨rfl, by omega, by omega⟩ (v := .ref (q + 1 + i)) (by show va_rf (if i < ta.length + 1 then some (q + 1 + i) else none) = _; rw [if_pos (by omega)]; rfl) dX15_lengths_88 ?_
        refine lv_iload_n hx hb dX15_lengths_89 rfl (lv_at hl 3 rfl) ?_
        refine lv_iconst (v := zI 1) hx hb dX15_lengths_90 (by decide +kernel) ?_
        refine g_iadd hx hb dX15_lengths_91 ?_
        refine g_iald hx hb hG (hG.at (i + 2) (tbR_at2 (by omega))) (t + 1) ⟨by omega, by omega, by omega⟩ (v := zI ((lc (alk ta tb) ta.length tb.length i (t + 1) : Nat) : Int)) (h2 (t + 1) (by omega) (by omega)) dX15_lengths_92 ?_
        refine g_max hx hb (hml.trans hl.1.symm) hts hown (hts _ q1826) ⟨Nat.le_of_ble_eq_true rfl, Nat.le_of_ble_eq_true rfl, (by show _ ≤ 26; omega), (by show _ ≤ 650; omega)⟩ (by omega) dX15_lengths_93 ?_
        have hval : ((lc (alk ta tb) ta.length tb.length i t : Nat) : Int) = (max ((lc (alk ta tb) ta.length tb.length (i + 1) t : Nat) : Int) ((lc (alk ta tb) ta.length tb.length i (t + 1) : Nat) : Int)) := by rw [hlc, if_neg (fun q => by rw [q] at k5; cases k5)] <;> omega
        refine g_iast hx hb hG (i + 2) (tbR_at2 (by omega)) t ⟨by omega, by omega, by omega⟩ dX15_lengths_96 (fun H locs hG => ?_)
        have hG : gW X F V ((q, aR (gT X 11) (ta.length + 1) (fun z => if z < ta.length + 1 then some (q + 1 + z) else none)) :: (mt, oB 13 [v0, v1, v2, v3, v4, .ref a, .ref b, v7, v8]) :: (tbR X q (ta.length + 1) (tb.length + 1) (va_up g i (upd (g i) t (zI (max ((lc (alk ta tb) ta.length tb.length (i + 1) t : Nat) : Int) ((lc (alk ta tb) ta.length tb.length i (t + 1) : Nat) : Int))))) ++ Z)) s H locs := by rw [← tbR_set2 (by omega)]; exact hG
        refine lv_iinc (v := zI ((t : Int) - 1 : Int)) (lv' := [(3, .int (zI ((t : Int) - 1 : Int))), (0, .ref mt), (1, .ref q), (2, .int (zI (i : Int)))]) hx hb dX15_lengths_97 hl (k := 3) rfl ((zI_add _ _).trans (congrArg zI (by omega))) (by decide) rfl (fun ls hl => ?_)
        refine lv_goto (tgt := 39) hx hb dX15_lengths_100 (by decide) ?_
        exact ihJ t (by omega) H locs ls ⟨t, (va_up g i (upd (g i) t (zI (max ((lc (alk ta tb) ta.length tb.length (i + 1) t : Nat) : Int) ((lc (alk ta tb) ta.length tb.length i (t + 1) : Nat) : Int))))), ⟨by omega, rfl, fun x hx1 hx2 y hy => by rw [va_up_ne _ _ (show x ≠ i by omega)]; exact h1 x hx1 hx2 y hy, fun y hy1 hy2 => by rw [va_up_self]; unfold upd; by_cases hyt : y = t; (subst hyt; rw [if_pos rfl]; exact congrArg zI hval.symm); (rw [if_neg hyt]; exact h2 y (by omega) hy2), fun x hx y => by rw [va_up_ne _ _ (show x ≠ i by omega)]; exact h3 x hx y⟩, hG, (lv_sub hl [1, 2, 3, 0] rfl)⟩
      · refine lv_iconst (v := zI 1) hx hb dX15_lengths_65 (by decide +kernel) ?_
        refine lv_aload_n hx hb dX15_lengths_66 rfl (lv_at hl 1 rfl) ?_
        refine lv_iload_n hx hb dX15_lengths_67 rfl (lv_at hl 2 rfl) ?_
        refine lv_iconst (v := zI 1) hx hb dX15_lengths_68 (by decide +kernel) ?_
        refine g_iadd hx hb dX15_lengths_69 ?_
        refine g_aald hx hb hG 11 rfl rfl (hG.at 0 rfl) (i + 1) ⟨rfl, by omega, by omega⟩ (v := .ref (q + 1 + (i + 1))) (by show va_rf (if (i + 1) < ta.length + 1 then some (q + 1 + (i + 1)) else none) = _; rw [if_pos (by omega)]; rfl) dX15_lengths_70 ?_
        refine lv_iload_n hx hb dX15_lengths_71 rfl (lv_at hl 3 rfl) ?_
        refine lv_iconst (v := zI 1) hx hb dX15_lengths_72 (by decide +kernel) ?_
        refine g_iadd hx hb dX15_lengths_73 ?_
        refine g_iald hx hb hG (hG.at ((i + 1) + 2) (tbR_at2 (by omega))) (t + 1) ⟨by omega, by omega, by omega⟩ (v := zI ((lc (alk ta tb) ta.length tb.length (i + 1) (t + 1) : Nat) : Int)) (h1 (i + 1) (by omega) (by omega) (t + 1) (by omega)) dX15_lengths_74 ?_
        refine g_iadd hx hb dX15_lengths_75 ?_
        refine lv_goto (tgt := 96) hx hb dX15_lengths_76 (by decide) ?_
        have hval : ((lc (alk ta tb) ta.length tb.length i t : Nat) : Int) = (1 + ((lc (alk ta tb) ta.length tb.length (i + 1) (t + 1) : Nat) : Int) : Int) := by rw [hlc, if_pos (by cases hq : alk ta tb i t with | true => rfl | false => (rw [hq] at k5; exact absurd rfl k5))]; omega
        refine g_topz (y := (1 + ((lc (alk ta tb) ta.length tb.length (i + 1) (t + 1) : Nat) : Int) : Int)) (by omega) ?_
        refine g_iast hx hb hG (i + 2) (tbR_at2 (by omega)) t ⟨by omega, by omega, by omega⟩ dX15_lengths_96 (fun H locs hG => ?_)
        have hG : gW X F V ((q, aR (gT X 11) (ta.length + 1) (fun z => if z < ta.length + 1 then some (q + 1 + z) else none)) :: (mt, oB 13 [v0, v1, v2, v3, v4, .ref a, .ref b, v7, v8]) :: (tbR X q (ta.length + 1) (tb.length + 1) (va_up g i (upd (g i) t (zI (1 + ((lc (alk ta tb) ta.length tb.length (i + 1) (t + 1) : Nat) : Int) : Int)))) ++ Z)) s H locs := by rw [← tbR_set2 (by omega)]; exact hG
        refine lv_iinc (v := zI ((t : Int) - 1 : Int)) (lv' := [(3, .int (zI ((t : Int) - 1 : Int))), (0, .ref mt), (1, .ref q), (2, .int (zI (i : Int)))]) hx hb dX15_lengths_97 hl (k := 3) rfl ((zI_add _ _).trans (congrArg zI (by omega))) (by decide) rfl (fun ls hl => ?_)
        refine lv_goto (tgt := 39) hx hb dX15_lengths_100 (by decide) ?_
        exact ihJ t (by omega) H locs ls ⟨t, (va_up g i (upd (g i) t (zI (1 + ((lc (alk ta tb) ta.length tb.length (i + 1) (t + 1) : Nat) : Int) : Int)))), ⟨by omega, rfl, fun x hx1 hx2 y hy => by rw [va_up_ne _ _ (show x ≠ i by omega)]; exact h1 x hx1 hx2 y hy, fun y hy1 hy2 => by rw [va_up_self]; unfold upd; by_cases hyt : y = t; (subst hyt; rw [if_pos rfl]; exact congrArg zI hval.symm); (rw [if_neg hyt]; exact h2 y (by omega) hy2), fun x hx y => by rw [va_up_ne _ _ (show x ≠ i by omega)]; exact h3 x hx y⟩, hG, (lv_sub hl [1, 2, 3, 0] rfl)⟩

