set_option maxRecDepth 100000
set_option maxHeartbeats 4000000 in
theorem metX4_read {l : Launch} {X : gX} {mo : Nat} {ad : Nat → Nat} {S : mS} {v i : Nat} (hv : v < 8 ∧ i < 160) : Met l yX4_read (ws_ yX4_read cX4_read 3 (some FieldType.int)) ({ frames := 0, cells := 0, slots := 0, locals := 0 }) (mP X mo ad S [.ref mo, .int (zI (v : Int)), .int (zI (i : Int))]) (mQi X mo ad (fun u T => u = (S.2.2 11 (160 * v + i)).toInt32 ∧ S = T)) 0 0 (mA mo ad) := by
  refine Met.m (by decide) (Nat.le_of_ble_eq_true rfl) ?_
  intro p e s m below meth c ls hx hb hr hts hown hlocks hml hG hl
  have hl : lv_has ls 3 [(0, .ref mo), (1, .int (zI (v : Int))), (2, .int (zI (i : Int)))] := hl
  refine lv_aload_n hx hb dX4_read_0 rfl (lv_at hl 0 rfl) ?_
  refine m_get 11 (by decide) (v := .ref (ad 11)) rfl hx hb hts hown hG (hts _ q3307) dX4_read_1 ?_
  refine lv_sipush (v := zI 160) hx hb dX4_read_4 (by decide +kernel) ?_
  refine lv_iload_n hx hb dX4_read_7 rfl (lv_at hl 1 rfl) ?_
  refine g_imul hx hb dX4_read_8 ?_
  refine lv_iload_n hx hb dX4_read_9 rfl (lv_at hl 2 rfl) ?_
  refine g_iadd hx hb dX4_read_10 ?_
  refine m_lald 11 rfl rfl (160 * v + i) (v := S.2.2 11 (160 * v + i)) ⟨by omega, by show _ < 1280; omega⟩ rfl hx hb hG dX4_read_11 ?_
  refine lv_l2i (v := (S.2.2 11 (160 * v + i)).toInt32) hx hb dX4_read_12 rfl ?_
  exact m_iret hx hb hr hlocks hG (⟨rfl, rfl⟩) ⟨Nat.le_of_ble_eq_true rfl, Nat.le_of_ble_eq_true rfl⟩ dX4_read_13

set_option maxHeartbeats 4000000 in
theorem metX4_copies {l : Launch} {X : gX} {mo : Nat} {ad : Nat → Nat} {S : mS} {r n : Nat} (hn : S.1 0 = (n : Nat) ∧ n < 16 ∧ r < n) : Met l yX4_copies (ws_ yX4_copies cX4_copies 3 none) ({ frames := 0, cells := 0, slots := 0, locals := 0 }) (mP X mo ad S [.ref mo, .int (zI (r : Int))]) (mQv X mo ad (fun T => T.1 = S.1 ∧ (∀ j, T.2.1 2 j = if j = n then S.2.1 2 r else S.2.1 2 j) ∧ (∀ k, k ≠ 2 → T.2.1 k = S.2.1 k) ∧ (∀ j, j < 24 → T.2.2 3 (24 * n + j) = S.2.2 3 (24 * r + j)) ∧ (∀ x, x < 24 * n ∨ 24 * n + 24 ≤ x → T.2.2 3 x = S.2.2 3 x) ∧ ∀ k, k ≠ 3 → T.2.2 k = S.2.2 k)) 0 0 (mA mo ad) := by
  refine Met.m (by decide) (Nat.le_of_ble_eq_true rfl) ?_
  intro p e s m below meth c ls hx hb hr hts hown hlocks hml hG hl
  have hl : lv_has ls 3 [(0, .ref mo), (1, .int (zI (r : Int)))] := hl
  refine lv_aload_n hx hb dX4_copies_0 rfl (lv_at hl 0 rfl) ?_
  refine m_get 2 (by decide) (v := .ref (ad 2)) rfl hx hb hts hown hG (hts _ q3298) dX4_copies_1 ?_
  refine lv_aload_n hx hb dX4_copies_4 rfl (lv_at hl 0 rfl) ?_
  refine m_get 0 (by decide) (v := .int (zI (n : Int))) (congrArg (fun z => Value.int (zI z)) (show S.1 0 = (n : Int) from hn.1)) hx hb hts hown hG (hts _ q3296) dX4_copies_5 ?_
  refine lv_aload_n hx hb dX4_copies_8 rfl (lv_at hl 0 rfl) ?_
  refine m_get 2 (by decide) (v := .ref (ad 2)) rfl hx hb hts hown hG (hts _ q3298) dX4_copies_9 ?_
  refine lv_iload_n hx hb dX4_copies_12 rfl (lv_at hl 1 rfl) ?_
  refine m_iald 2 rfl rfl (by decide) r (v := S.2.1 2 r) ⟨by omega, by show _ < 17; omega⟩ rfl hx hb hG dX4_copies_13 ?_
  refine m_iast 2 rfl rfl (by decide) n ⟨by omega, by show _ < 17; omega⟩ hx hb hG dX4_copies_14 (fun H locs (hG : mW X mo ad (sA S 2 n (S.2.1 2 r)) s H locs) => ?_)
  refine lv_iconst (v := zI 0) hx hb dX4_copies_15 (by decide +kernel) ?_
  refine lv_istore_n (lv' := [(2, .int (zI 0)), (0, .ref mo), (1, .int (zI (r : Int)))]) hx hb dX4_copies_16 rfl hl (by decide) rfl (fun ls hl => ?_)
  refine g_loop (fun mz H locs ls => ∃ (i : Nat) (T : mS), (i ≤ 24 ∧ mz = 24 - i ∧ T.1 = S.1 ∧ (∀ j, T.2.1 2 j = if j = n then S.2.1 2 r else S.2.1 2 j) ∧ (∀ k, k ≠ 2 → T.2.1 k = S.2.1 k) ∧ (∀ j, j < i → T.2.2 3 (24 * n + j) = S.2.2 3 (24 * r + j)) ∧ (∀ x, x < 24 * n ∨ 24 * n + 24 ≤ x → T.2.2 3 x = S.2.2 3 x) ∧ ∀ k, k ≠ 3 → T.2.2 k = S.2.2 k) ∧ mW X mo ad T s H locs ∧ lv_has ls 3 [(0, .ref mo), (1, .int (zI (r : Int))), (2, .int (zI (i : Int)))]) (24 - 0) ⟨0, (sA S 2 n (S.2.1 2 r)), ⟨by omega, rfl, rfl, fun j => sA_e, fun k hk => sA_o hk, fun j hj => by omega, fun x _ => rfl, fun k _ => rfl⟩, hG, (lv_sub hl [1, 2, 0] rfl)⟩ (fun mz ihA H locs ls hI => ?_)
  obtain ⟨i, T, ⟨hi, hmz, hI, h2, hA, hL, hO⟩, hG, hl⟩ := hI
  refine lv_iload_n hx hb dX4_copies_17 rfl (lv_at hl 2 rfl) ?_
  refine lv_bipush (v := zI 24) hx hb dX4_copies_18 (by decide +kernel) ?_
  refine g_cge (tgt := 54) hx hb dX4_copies_20 (by decide) (by omega) (fun h1 => ?_) (fun h1 => ?_)
  · exact m_vret hx hb hr hlocks hG (⟨hI, h2, hA, fun j hj => hL j (by omega), hO⟩) ⟨Nat.le_of_ble_eq_true rfl, Nat.le_of_ble_eq_true rfl⟩ dX4_copies_54
  · refine lv_aload_n hx hb dX4_copies_23 rfl (lv_at hl 0 rfl) ?_
    refine m_get 3 (by decide) (v := .ref (ad 3)) rfl hx hb hts hown hG (hts _ q3299) dX4_copies_24 ?_
    refine lv_bipush (v := zI 24) hx hb dX4_copies_27 (by decide +kernel) ?_
    refine lv_aload_n hx hb dX4_copies_29 rfl (lv_at hl 0 rfl) ?_
    refine m_get 0 (by decide) (v := .int (zI (n : Int))) (congrArg (fun z => Value.int (zI z)) (show T.1 0 = (n : Int) from ((congrFun hI 0).trans hn.1))) hx hb hts hown hG (hts _ q3296) dX4_copies_30 ?_
    refine g_imul hx hb dX4_copies_33 ?_
    refine lv_iload_n hx hb dX4_copies_34 rfl (lv_at hl 2 rfl) ?_
    refine g_iadd hx hb dX4_copies_35 ?_
    refine lv_aload_n hx hb dX4_copies_36 rfl (lv_at hl 0 rfl) ?_
    refine m_get 3 (by decide) (v := .ref (ad 3)) rfl hx hb hts hown hG (hts _ q3299) dX4_copies_37 ?_
    refine lv_bipush (v := zI 24) hx hb dX4_copies_40 (by decide +kernel) ?_
    refine lv_iload_n hx hb dX4_copies_42 rfl (lv_at hl 1 rfl) ?_
    refine g_imul hx hb dX4_copies_43 ?_
    refine lv_iload_n hx hb dX4_copies_44 rfl (lv_at hl 2 rfl) ?_
    refine g_iadd hx hb dX4_copies_45 ?_
    refine m_lald 3 rfl rfl (24 * r + i) (v := (S.2.2 3 (24 * r + i))) ⟨by omega, by show _ < 408; omega⟩ (hO.1 _ (by omega)) hx hb hG dX4_copies_46 ?_
    refine m_last 3 rfl rfl (24 * n + i) ⟨by omega, by show _ < 408; omega⟩ hx hb hG dX4_copies_47 (fun H locs (hG : mW X mo ad (sL T 3 (24 * n + i) (S.2.2 3 (24 * r + i))) s H locs) => ?_)
    refine lv_iinc (v := zI ((i : Int) + 1 : Int)) (lv' := [(2, .int (zI ((i : Int) + 1 : Int))), (0, .ref mo), (1, .int (zI (r : Int)))]) hx hb dX4_copies_48 hl (k := 2) rfl ((zI_add _ _).trans (congrArg zI (by omega))) (by decide) rfl (fun ls hl => ?_)
    refine lv_goto (tgt := 17) hx hb dX4_copies_51 (by decide) ?_
    exact ihA (24 - (i + 1)) (by omega) H locs ls ⟨(i + 1), (sL T 3 (24 * n + i) (S.2.2 3 (24 * r + i))), ⟨by omega, rfl, hI, h2, hA, fun j hj => by by_cases hji : j = i; (subst hji; exact sL_s); exact (sL_n (by omega)).trans (hL j (by omega)), fun x hx => (sL_n (by omega)).trans (hO.1 x hx), fun k hk => (sL_o hk).trans (hO.2 k hk)⟩, hG, (lv_sub hl [1, 2, 0] rfl)⟩

