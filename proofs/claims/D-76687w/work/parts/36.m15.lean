set_option maxRecDepth 100000
def ptV (m b k x : Int) : Int := if k = 1 then x + m + b else if k = 3 then x + 1 + m + b else if k = 4 then x + m - m else if k = 6 then (x + 1 + m + b) * 2 else x + m
def ptT (k : Int) : List Int := if k = 1 then [20, 10] else if k = 3 then [40, 20, 10] else if k = 4 then [51, 10] else if k = 6 then [70, 40, 20, 10] else [10]
def wgV (m b k0 k x : Int) : Int := if k = 2 ∨ k = 5 then ptV m b k0 x * 2 * 3 else if k = 6 then ptV m b k0 (x - b) * 2 else ptV m b k0 x * 2
def wgT (k0 k : Int) : List Int := if k = 2 ∨ k = 5 then 30 :: 11 :: ptT k0 else if k = 6 then 71 :: 11 :: ptT k0 else 11 :: ptT k0
def clV (m b k0 k x : Int) : Int32 := if k = 4 then -(zI (wgV m b k0 k0 x) ^^^ zI (ptV m b k0 (x - b))) else if k = 5 then zI (wgV m b k0 k0 x) ^^^ zI (ptV m b k0 (x - b)) ^^^ zI 5 else zI (wgV m b k0 k0 x) ^^^ zI (ptV m b k0 (x - b))
def clT (k0 k : Int) : List Int := if k = 4 then 50 :: 12 :: (wgT k0 k0 ++ ptT k0) else if k = 5 then 60 :: 12 :: (wgT k0 k0 ++ ptT k0) else 12 :: (wgT k0 k0 ++ ptT k0)
theorem ptT_l (k : Int) : (ptT k).length ≤ 4 := by unfold ptT; (repeat' split) <;> decide
theorem wgT_l (k0 k : Int) : (wgT k0 k).length ≤ 6 := by
  have := ptT_l k0
  unfold wgT
  (repeat' split) <;> simp only [List.length_cons] <;> omega
theorem clT_l (k0 k : Int) : (clT k0 k).length ≤ 12 := by
  have := ptT_l k0
  have := wgT_l k0 k0
  unfold clT
  (repeat' split) <;> simp only [List.length_cons, List.length_append] <;> omega
theorem mX.ap {S : mS} {a : aS} {t u v r : List Int} (h : mX S (aSetT (aSetT a (t ++ u)) (aTr (aSetT a (t ++ u)) ++ v))) (e : u ++ v = r) : mX S (aSetT a (t ++ r)) := by
  subst e
  have h : mX S (aSetT a (t ++ u ++ v)) := h
  rw [List.append_assoc] at h
  exact h
def opAct (a : aS) (y move x : Int) : Int32 × aS := if ¬ ((0 ≤ y ∧ y < wM (aWd a)) ∧ 0 ≤ move ∧ move ≤ 2) then (0, aSetT a []) else if move = 0 then (zI (ptV y (rBy (wRk (aWd a) y.toNat) : Nat) (rKind (wRk (aWd a) y.toNat) : Nat) x), aSetT a (ptT (rKind (wRk (aWd a) y.toNat) : Nat))) else if move = 1 then (zI (wgV y (rBy (wRk (aWd a) y.toNat) : Nat) (rKind (wRk (aWd a) y.toNat) : Nat) (rKind (wRk (aWd a) y.toNat) : Nat) x), aSetT a (wgT (rKind (wRk (aWd a) y.toNat) : Nat) (rKind (wRk (aWd a) y.toNat) : Nat))) else (clV y (rBy (wRk (aWd a) y.toNat) : Nat) (rKind (wRk (aWd a) y.toNat) : Nat) (rKind (wRk (aWd a) y.toNat) : Nat) x, aSetT a (clT (rKind (wRk (aWd a) y.toNat) : Nat) (rKind (wRk (aWd a) y.toNat) : Nat)))
theorem mX_cl {S : mS} {a : aS} {t u v : List Int} {b : Int} (h : mX S (aSetT (aSetT a (t ++ [b] ++ u)) (aTr (aSetT a (t ++ [b] ++ u)) ++ v))) : mX S (aSetT a (t ++ b :: (u ++ v))) := by
  have h : mX S (aSetT a (t ++ [b] ++ u ++ v)) := h
  rw [List.append_assoc, List.append_assoc] at h
  exact h
set_option maxHeartbeats 4000000 in
theorem metX4_points_h0 {l : Launch} {X : gX} {mo : Nat} {ad : Nat → Nat} {S : mS} {a : aS} (hX : mX S a) (hA : aOK a) {y : Nat} {k x : Int} (hy9 : y < wM (aWd a)) (hk9 : k = 0) (hlen : (aTr a).length + 1 ≤ 20) : Met l yX4_points (ws_ yX4_points cX4_points 4 (some FieldType.int)) ({ frames := 1, cells := 0, slots := 0, locals := 21 }) (mP X mo ad S [.ref mo, .int (zI (y : Int)), .int (zI k), .int (zI x)]) (mQi X mo ad (fun u T => u = zI (ptV (y : Int) (rBy (wRk (aWd a) y) : Int) k x) ∧ mX T (aSetT a (aTr a ++ ptT k)))) 0 0 (mA mo ad) := by
  refine Met.m (by decide) (Nat.le_of_ble_eq_true rfl) ?_
  intro p e s m below meth c ls hx hb hr hts hown hlocks hml hG hl
  have hl : lv_has ls 4 [(0, .ref mo), (1, .int (zI (y : Int))), (2, .int (zI k)), (3, .int (zI x))] := hl
  have hMM := hA.w.m
  have hNN := hA.w.n
  refine lv_iload_n hx hb dX4_points_0 rfl (lv_at hl 2 rfl) ?_
  rcases (show k = 0 by omega) with hk
  · refine g_tin hx hb 0 (off := 43) (tgt := 44) dX4_points_1 hk (by decide) rfl (by decide) ?_
    subst hk
    refine lv_aload_n hx hb dX4_points_44 rfl (lv_at hl 0 rfl) ?_
    refine lv_bipush (v := zI 10) hx hb dX4_points_45 (by decide +kernel) ?_
    refine m_cv (va_runV (As := [.int (zI 10)]) (rest := []) ⟨hx, hb, hml, hown, hts⟩ (metX4_ran hX hA (by omega)) (cwV 1 hts (lw_V q3714 q3716 qs81 q102 q3717) rfl rfl rfl (by decide +kernel) ⟨Nat.le_of_ble_eq_true rfl, Nat.le_of_ble_eq_true rfl⟩) (m_preV hG) rfl rfl hl.1 rfl (lv_room (Nat.le_of_ble_eq_true rfl)) dX4_points_47 ⟨Nat.le_of_ble_eq_true rfl, Nat.le_of_ble_eq_true rfl⟩) hG (fun S_2 H locs hp hG => ?_)
    have hX1 := hp
    have hG : mW X mo ad S_2 s H locs := hG
    have hA1 : aOK (aSetT a (aTr a ++ [10])) := hA.t (by rw [List.length_append]; show _ + 1 ≤ 20; omega)
    have hl1 : (aTr (aSetT a (aTr a ++ [10]))).length = (aTr a).length + 1 := List.length_append
    refine lv_iload_n hx hb dX4_points_50 rfl (lv_at hl 3 rfl) ?_
    refine lv_iload_n hx hb dX4_points_51 rfl (lv_at hl 1 rfl) ?_
    refine g_iadd hx hb dX4_points_52 ?_
    exact m_iret hx hb hr hlocks hG (⟨congrArg zI (show _ = (x + (y : Int)) by omega), hX1⟩) ⟨Nat.le_of_ble_eq_true rfl, Nat.le_of_ble_eq_true rfl⟩ dX4_points_53

set_option maxHeartbeats 4000000 in
theorem metX4_points_h1 {l : Launch} {X : gX} {mo : Nat} {ad : Nat → Nat} {S : mS} {a : aS} (hX : mX S a) (hA : aOK a) {y : Nat} {k x : Int} (hy9 : y < wM (aWd a)) (hk9 : k = 0 ∨ k = 1 ∨ k = 2 ∨ k = 4) (hlen : (aTr a).length + 2 ≤ 20) : Met l yX4_points (ws_ yX4_points cX4_points 4 (some FieldType.int)) ({ frames := 2, cells := 0, slots := 0, locals := 44 }) (mP X mo ad S [.ref mo, .int (zI (y : Int)), .int (zI k), .int (zI x)]) (mQi X mo ad (fun u T => u = zI (ptV (y : Int) (rBy (wRk (aWd a) y) : Int) k x) ∧ mX T (aSetT a (aTr a ++ ptT k)))) 0 0 (mA mo ad) := by
  refine Met.m (by decide) (Nat.le_of_ble_eq_true rfl) ?_
  intro p e s m below meth c ls hx hb hr hts hown hlocks hml hG hl
  have hl : lv_has ls 4 [(0, .ref mo), (1, .int (zI (y : Int))), (2, .int (zI k)), (3, .int (zI x))] := hl
  have hMM := hA.w.m
  have hNN := hA.w.n
  refine lv_iload_n hx hb dX4_points_0 rfl (lv_at hl 2 rfl) ?_
  rcases (show k = 0 ∨ k = 1 ∨ k = 2 ∨ k = 4 by omega) with hk | hk | hk | hk
  · refine g_tin hx hb 0 (off := 43) (tgt := 44) dX4_points_1 hk (by decide) rfl (by decide) ?_
    subst hk
    refine lv_aload_n hx hb dX4_points_44 rfl (lv_at hl 0 rfl) ?_
    refine lv_bipush (v := zI 10) hx hb dX4_points_45 (by decide +kernel) ?_
    refine m_cv (va_runV (As := [.int (zI 10)]) (rest := []) ⟨hx, hb, hml, hown, hts⟩ (metX4_ran hX hA (by omega)) (cwV 1 hts (lw_V q3714 q3716 qs81 q102 q3717) rfl rfl rfl (by decide +kernel) ⟨Nat.le_of_ble_eq_true rfl, Nat.le_of_ble_eq_true rfl⟩) (m_preV hG) rfl rfl hl.1 rfl (lv_room (Nat.le_of_ble_eq_true rfl)) dX4_points_47 ⟨Nat.le_of_ble_eq_true rfl, Nat.le_of_ble_eq_true rfl⟩) hG (fun S_2 H locs hp hG => ?_)
    have hX1 := hp
    have hG : mW X mo ad S_2 s H locs := hG
    have hA1 : aOK (aSetT a (aTr a ++ [10])) := hA.t (by rw [List.length_append]; show _ + 1 ≤ 20; omega)
    have hl1 : (aTr (aSetT a (aTr a ++ [10]))).length = (aTr a).length + 1 := List.length_append
    refine lv_iload_n hx hb dX4_points_50 rfl (lv_at hl 3 rfl) ?_
    refine lv_iload_n hx hb dX4_points_51 rfl (lv_at hl 1 rfl) ?_
    refine g_iadd hx hb dX4_points_52 ?_
    exact m_iret hx hb hr hlocks hG (⟨congrArg zI (show _ = (x + (y : Int)) by omega), hX1⟩) ⟨Nat.le_of_ble_eq_true rfl, Nat.le_of_ble_eq_true rfl⟩ dX4_points_53
  · refine g_tin hx hb 1 (off := 53) (tgt := 54) dX4_points_1 hk (by decide) rfl (by decide) ?_
    subst hk
    refine lv_aload_n hx hb dX4_points_54 rfl (lv_at hl 0 rfl) ?_
    refine lv_bipush (v := zI 20) hx hb dX4_points_55 (by decide +kernel) ?_
    refine m_cv (va_runV (As := [.int (zI 20)]) (rest := []) ⟨hx, hb, hml, hown, hts⟩ (metX4_ran hX hA (by omega)) (cwV 1 hts (lw_V q3714 q3716 qs81 q102 q3717) rfl rfl rfl (by decide +kernel) ⟨Nat.le_of_ble_eq_true rfl, Nat.le_of_ble_eq_true rfl⟩) (m_preV hG) rfl rfl hl.1 rfl (lv_room (Nat.le_of_ble_eq_true rfl)) dX4_points_57 ⟨Nat.le_of_ble_eq_true rfl, Nat.le_of_ble_eq_true rfl⟩) hG (fun S_4 H locs hp hG => ?_)
    have hX1 := hp
    have hG : mW X mo ad S_4 s H locs := hG
    have hA1 : aOK (aSetT a (aTr a ++ [20])) := hA.t (by rw [List.length_append]; show _ + 1 ≤ 20; omega)
    have hl1 : (aTr (aSetT a (aTr a ++ [20]))).length = (aTr a).length + 1 := List.length_append
    refine lv_aload_n hx hb dX4_points_60 rfl (lv_at hl 0 rfl) ?_
    refine lv_iload_n hx hb dX4_points_61 rfl (lv_at hl 1 rfl) ?_
    refine lv_iconst (v := zI 0) hx hb dX4_points_62 (by decide +kernel) ?_
    refine lv_iload_n hx hb dX4_points_63 rfl (lv_at hl 3 rfl) ?_
    refine m_ci (va_runV (As := [.int (zI (y : Int)), .int (zI 0), .int (zI x)]) (rest := []) ⟨hx, hb, hml, hown, hts⟩ (metX4_points_h0 (a := (aSetT a (aTr a ++ [20]))) (y := y) (k := 0) (x := x) hX1 hA1 hy9 (by omega) (by omega)) (cwV 3 hts (lw_V q3710 q3712 qs80 q102 q3713) rfl rfl rfl (by decide +kernel) ⟨Nat.le_of_ble_eq_true rfl, Nat.le_of_ble_eq_true rfl⟩) (m_preV hG) rfl rfl hl.1 rfl (lv_room (Nat.le_of_ble_eq_true rfl)) dX4_points_64 ⟨Nat.le_of_ble_eq_true rfl, Nat.le_of_ble_eq_true rfl⟩) hG (fun r_6 S_7 H locs hp hG => ?_)
    obtain ⟨rfl, hY5⟩ := hp
    have hG : mW X mo ad S_7 s H locs := hG
    refine lv_aload_n hx hb dX4_points_67 rfl (lv_at hl 0 rfl) ?_
    refine lv_iconst (v := zI 1) hx hb dX4_points_68 (by decide +kernel) ?_
    refine lv_iload_n hx hb dX4_points_69 rfl (lv_at hl 1 rfl) ?_
    refine m_ci (va_runV (As := [.int (zI 1), .int (zI (y : Int))]) (rest := [.int (zI (ptV (y : Int) (rBy (wRk (aWd a) y) : Int) 0 x))]) ⟨hx, hb, hml, hown, hts⟩ (metX4_of 1 (m0 := y) (by omega)) (cwV 2 hts (lw_V q3467 q3469 qs47 q102 q3470) rfl rfl rfl (by decide +kernel) ⟨Nat.le_of_ble_eq_true rfl, Nat.le_of_ble_eq_true rfl⟩) (m_preV hG) rfl rfl hl.1 rfl (lv_room (Nat.le_of_ble_eq_true rfl)) dX4_points_70 ⟨Nat.le_of_ble_eq_true rfl, Nat.le_of_ble_eq_true rfl⟩) hG (fun r_8 S_9 H locs hp hG => ?_)
    obtain ⟨rfl, rfl⟩ := hp
    have hG : mW X mo ad S_7 s H locs := hG
    refine g_topz (y := (rBy (wRk (aWd a) y) : Int)) ((show mO S_7 (aWd a) from hY5.o).by (m := y) (by omega)) ?_
    have hv1 := hA.w.rk (m := y) (by omega)
    refine g_iadd hx hb dX4_points_73 ?_
    exact m_iret hx hb hr hlocks hG (⟨by first | rfl | (unfold ptV; rfl) | (unfold wgV; rfl) | (unfold clV; rfl), hY5.ap (u := [20]) rfl⟩) ⟨Nat.le_of_ble_eq_true rfl, Nat.le_of_ble_eq_true rfl⟩ dX4_points_74
  · refine g_tin hx hb 2 (off := 122) (tgt := 123) dX4_points_1 hk (by decide) rfl (by decide) ?_
    subst hk
    refine lv_aload_n hx hb dX4_points_123 rfl (lv_at hl 0 rfl) ?_
    refine lv_iload_n hx hb dX4_points_124 rfl (lv_at hl 1 rfl) ?_
    refine lv_iload_n hx hb dX4_points_125 rfl (lv_at hl 2 rfl) ?_
    refine m_ci (va_runS (As := [.int (zI 2)]) (rest := [.int (zI (y : Int)), .ref mo]) ⟨hx, hb, hml, hown, hts⟩ (metX4_above (by omega)) (va_cwS 1 hts (lw_S q3474 q3475 q102 q3476) rfl rfl rfl (by decide +kernel) ⟨Nat.le_of_ble_eq_true rfl, Nat.le_of_ble_eq_true rfl⟩) (m_preS hG) rfl rfl hl.1 rfl (lv_room (Nat.le_of_ble_eq_true rfl)) dX4_points_126 ⟨Nat.le_of_ble_eq_true rfl, Nat.le_of_ble_eq_true rfl⟩) hG (fun r_10 S_11 H locs hp hG => ?_)
    obtain ⟨rfl, rfl⟩ := hp
    have hG : mW X mo ad S s H locs := hG
    refine g_topz (y := 0) (by decide) ?_
    refine lv_iload_n hx hb dX4_points_129 rfl (lv_at hl 3 rfl) ?_
    refine m_ci (va_runV (As := [.int (zI (y : Int)), .int (zI 0), .int (zI x)]) (rest := []) ⟨hx, hb, hml, hown, hts⟩ (metX4_points_h0 (a := a) (y := y) (k := 0) (x := x) hX hA hy9 (by omega) (by omega)) (cwV 3 hts (lw_V q3710 q3712 qs80 q102 q3713) rfl rfl rfl (by decide +kernel) ⟨Nat.le_of_ble_eq_true rfl, Nat.le_of_ble_eq_true rfl⟩) (m_preV hG) rfl rfl hl.1 rfl (lv_room (Nat.le_of_ble_eq_true rfl)) dX4_points_130 ⟨Nat.le_of_ble_eq_true rfl, Nat.le_of_ble_eq_true rfl⟩) hG (fun r_13 S_14 H locs hp hG => ?_)
    obtain ⟨rfl, hY12⟩ := hp
    have hG : mW X mo ad S_14 s H locs := hG
    exact m_iret hx hb hr hlocks hG (⟨by first | rfl | (unfold ptV; rfl) | (unfold wgV; rfl) | (unfold clV; rfl), hY12⟩) ⟨Nat.le_of_ble_eq_true rfl, Nat.le_of_ble_eq_true rfl⟩ dX4_points_133
  · refine g_tin hx hb 4 (off := 90) (tgt := 91) dX4_points_1 hk (by decide) rfl (by decide) ?_
    subst hk
    refine lv_aload_n hx hb dX4_points_91 rfl (lv_at hl 0 rfl) ?_
    refine lv_bipush (v := zI 51) hx hb dX4_points_92 (by decide +kernel) ?_
    refine m_cv (va_runV (As := [.int (zI 51)]) (rest := []) ⟨hx, hb, hml, hown, hts⟩ (metX4_ran hX hA (by omega)) (cwV 1 hts (lw_V q3714 q3716 qs81 q102 q3717) rfl rfl rfl (by decide +kernel) ⟨Nat.le_of_ble_eq_true rfl, Nat.le_of_ble_eq_true rfl⟩) (m_preV hG) rfl rfl hl.1 rfl (lv_room (Nat.le_of_ble_eq_true rfl)) dX4_points_94 ⟨Nat.le_of_ble_eq_true rfl, Nat.le_of_ble_eq_true rfl⟩) hG (fun S_16 H locs hp hG => ?_)
    have hX1 := hp
    have hG : mW X mo ad S_16 s H locs := hG
    have hA1 : aOK (aSetT a (aTr a ++ [51])) := hA.t (by rw [List.length_append]; show _ + 1 ≤ 20; omega)
    have hl1 : (aTr (aSetT a (aTr a ++ [51]))).length = (aTr a).length + 1 := List.length_append
    refine lv_aload_n hx hb dX4_points_97 rfl (lv_at hl 0 rfl) ?_
    refine lv_iload_n hx hb dX4_points_98 rfl (lv_at hl 1 rfl) ?_
    refine lv_iconst (v := zI 0) hx hb dX4_points_99 (by decide +kernel) ?_
    refine lv_iload_n hx hb dX4_points_100 rfl (lv_at hl 3 rfl) ?_
    refine m_ci (va_runV (As := [.int (zI (y : Int)), .int (zI 0), .int (zI x)]) (rest := []) ⟨hx, hb, hml, hown, hts⟩ (metX4_points_h0 (a := (aSetT a (aTr a ++ [51]))) (y := y) (k := 0) (x := x) hX1 hA1 hy9 (by omega) (by omega)) (cwV 3 hts (lw_V q3710 q3712 qs80 q102 q3713) rfl rfl rfl (by decide +kernel) ⟨Nat.le_of_ble_eq_true rfl, Nat.le_of_ble_eq_true rfl⟩) (m_preV hG) rfl rfl hl.1 rfl (lv_room (Nat.le_of_ble_eq_true rfl)) dX4_points_101 ⟨Nat.le_of_ble_eq_true rfl, Nat.le_of_ble_eq_true rfl⟩) hG (fun r_18 S_19 H locs hp hG => ?_)
    obtain ⟨rfl, hY17⟩ := hp
    have hG : mW X mo ad S_19 s H locs := hG
    refine lv_iload_n hx hb dX4_points_104 rfl (lv_at hl 1 rfl) ?_
    refine g_isub hx hb dX4_points_105 ?_
    exact m_iret hx hb hr hlocks hG (⟨by first | rfl | (unfold ptV; rfl) | (unfold wgV; rfl) | (unfold clV; rfl), hY17.ap (u := [51]) rfl⟩) ⟨Nat.le_of_ble_eq_true rfl, Nat.le_of_ble_eq_true rfl⟩ dX4_points_106

set_option maxHeartbeats 4000000 in
theorem metX4_points_h2 {l : Launch} {X : gX} {mo : Nat} {ad : Nat → Nat} {S : mS} {a : aS} (hX : mX S a) (hA : aOK a) {y : Nat} {k x : Int} (hy9 : y < wM (aWd a)) (hk9 : k = 0 ∨ k = 1 ∨ k = 2 ∨ k = 3 ∨ k = 4 ∨ k = 5) (hlen : (aTr a).length + 3 ≤ 20) : Met l yX4_points (ws_ yX4_points cX4_points 4 (some FieldType.int)) ({ frames := 3, cells := 0, slots := 0, locals := 67 }) (mP X mo ad S [.ref mo, .int (zI (y : Int)), .int (zI k), .int (zI x)]) (mQi X mo ad (fun u T => u = zI (ptV (y : Int) (rBy (wRk (aWd a) y) : Int) k x) ∧ mX T (aSetT a (aTr a ++ ptT k)))) 0 0 (mA mo ad) := by
  refine Met.m (by decide) (Nat.le_of_ble_eq_true rfl) ?_
  intro p e s m below meth c ls hx hb hr hts hown hlocks hml hG hl
  have hl : lv_has ls 4 [(0, .ref mo), (1, .int (zI (y : Int))), (2, .int (zI k)), (3, .int (zI x))] := hl
  have hMM := hA.w.m
  have hNN := hA.w.n
  refine lv_iload_n hx hb dX4_points_0 rfl (lv_at hl 2 rfl) ?_
  rcases (show k = 0 ∨ k = 1 ∨ k = 2 ∨ k = 3 ∨ k = 4 ∨ k = 5 by omega) with hk | hk | hk | hk | hk | hk
  · refine g_tin hx hb 0 (off := 43) (tgt := 44) dX4_points_1 hk (by decide) rfl (by decide) ?_
    subst hk
    refine lv_aload_n hx hb dX4_points_44 rfl (lv_at hl 0 rfl) ?_
    refine lv_bipush (v := zI 10) hx hb dX4_points_45 (by decide +kernel) ?_
    refine m_cv (va_runV (As := [.int (zI 10)]) (rest := []) ⟨hx, hb, hml, hown, hts⟩ (metX4_ran hX hA (by omega)) (cwV 1 hts (lw_V q3714 q3716 qs81 q102 q3717) rfl rfl rfl (by decide +kernel) ⟨Nat.le_of_ble_eq_true rfl, Nat.le_of_ble_eq_true rfl⟩) (m_preV hG) rfl rfl hl.1 rfl (lv_room (Nat.le_of_ble_eq_true rfl)) dX4_points_47 ⟨Nat.le_of_ble_eq_true rfl, Nat.le_of_ble_eq_true rfl⟩) hG (fun S_2 H locs hp hG => ?_)
    have hX1 := hp
    have hG : mW X mo ad S_2 s H locs := hG
    have hA1 : aOK (aSetT a (aTr a ++ [10])) := hA.t (by rw [List.length_append]; show _ + 1 ≤ 20; omega)
    have hl1 : (aTr (aSetT a (aTr a ++ [10]))).length = (aTr a).length + 1 := List.length_append
    refine lv_iload_n hx hb dX4_points_50 rfl (lv_at hl 3 rfl) ?_
    refine lv_iload_n hx hb dX4_points_51 rfl (lv_at hl 1 rfl) ?_
    refine g_iadd hx hb dX4_points_52 ?_
    exact m_iret hx hb hr hlocks hG (⟨congrArg zI (show _ = (x + (y : Int)) by omega), hX1⟩) ⟨Nat.le_of_ble_eq_true rfl, Nat.le_of_ble_eq_true rfl⟩ dX4_points_53
  · refine g_tin hx hb 1 (off := 53) (tgt := 54) dX4_points_1 hk (by decide) rfl (by decide) ?_
    subst hk
    refine lv_aload_n hx hb dX4_points_54 rfl (lv_at hl 0 rfl) ?_
    refine lv_bipush (v := zI 20) hx hb dX4_points_55 (by decide +kernel) ?_
    refine m_cv (va_runV (As := [.int (zI 20)]) (rest := []) ⟨hx, hb, hml, hown, hts⟩ (metX4_ran hX hA (by omega)) (cwV 1 hts (lw_V q3714 q3716 qs81 q102 q3717) rfl rfl rfl (by decide +kernel) ⟨Nat.le_of_ble_eq_true rfl, Nat.le_of_ble_eq_true rfl⟩) (m_preV hG) rfl rfl hl.1 rfl (lv_room (Nat.le_of_ble_eq_true rfl)) dX4_points_57 ⟨Nat.le_of_ble_eq_true rfl, Nat.le_of_ble_eq_true rfl⟩) hG (fun S_4 H locs hp hG => ?_)
    have hX1 := hp
    have hG : mW X mo ad S_4 s H locs := hG
    have hA1 : aOK (aSetT a (aTr a ++ [20])) := hA.t (by rw [List.length_append]; show _ + 1 ≤ 20; omega)
    have hl1 : (aTr (aSetT a (aTr a ++ [20]))).length = (aTr a).length + 1 := List.length_append
    refine lv_aload_n hx hb dX4_points_60 rfl (lv_at hl 0 rfl) ?_
    refine lv_iload_n hx hb dX4_points_61 rfl (lv_at hl 1 rfl) ?_
    refine lv_iconst (v := zI 0) hx hb dX4_points_62 (by decide +kernel) ?_
    refine lv_iload_n hx hb dX4_points_63 rfl (lv_at hl 3 rfl) ?_
    refine m_ci (va_runV (As := [.int (zI (y : Int)), .int (zI 0), .int (zI x)]) (rest := []) ⟨hx, hb, hml, hown, hts⟩ (metX4_points_h1 (a := (aSetT a (aTr a ++ [20]))) (y := y) (k := 0) (x := x) hX1 hA1 hy9 (by omega) (by omega)) (cwV 3 hts (lw_V q3710 q3712 qs80 q102 q3713) rfl rfl rfl (by decide +kernel) ⟨Nat.le_of_ble_eq_true rfl, Nat.le_of_ble_eq_true rfl⟩) (m_preV hG) rfl rfl hl.1 rfl (lv_room (Nat.le_of_ble_eq_true rfl)) dX4_points_64 ⟨Nat.le_of_ble_eq_true rfl, Nat.le_of_ble_eq_true rfl⟩) hG (fun r_6 S_7 H locs hp hG => ?_)
    obtain ⟨rfl, hY5⟩ := hp
    have hG : mW X mo ad S_7 s H locs := hG
    refine lv_aload_n hx hb dX4_points_67 rfl (lv_at hl 0 rfl) ?_
    refine lv_iconst (v := zI 1) hx hb dX4_points_68 (by decide +kernel) ?_
    refine lv_iload_n hx hb dX4_points_69 rfl (lv_at hl 1 rfl) ?_
    refine m_ci (va_runV (As := [.int (zI 1), .int (zI (y : Int))]) (rest := [.int (zI (ptV (y : Int) (rBy (wRk (aWd a) y) : Int) 0 x))]) ⟨hx, hb, hml, hown, hts⟩ (metX4_of 1 (m0 := y) (by omega)) (cwV 2 hts (lw_V q3467 q3469 qs47 q102 q3470) rfl rfl rfl (by decide +kernel) ⟨Nat.le_of_ble_eq_true rfl, Nat.le_of_ble_eq_true rfl⟩) (m_preV hG) rfl rfl hl.1 rfl (lv_room (Nat.le_of_ble_eq_true rfl)) dX4_points_70 ⟨Nat.le_of_ble_eq_true rfl, Nat.le_of_ble_eq_true rfl⟩) hG (fun r_8 S_9 H locs hp hG => ?_)
    obtain ⟨rfl, rfl⟩ := hp
    have hG : mW X mo ad S_7 s H locs := hG
    refine g_topz (y := (rBy (wRk (aWd a) y) : Int)) ((show mO S_7 (aWd a) from hY5.o).by (m := y) (by omega)) ?_
    have hv1 := hA.w.rk (m := y) (by omega)
    refine g_iadd hx hb dX4_points_73 ?_
    exact m_iret hx hb hr hlocks hG (⟨by first | rfl | (unfold ptV; rfl) | (unfold wgV; rfl) | (unfold clV; rfl), hY5.ap (u := [20]) rfl⟩) ⟨Nat.le_of_ble_eq_true rfl, Nat.le_of_ble_eq_true rfl⟩ dX4_points_74
  · refine g_tin hx hb 2 (off := 122) (tgt := 123) dX4_points_1 hk (by decide) rfl (by decide) ?_
    subst hk
    refine lv_aload_n hx hb dX4_points_123 rfl (lv_at hl 0 rfl) ?_
    refine lv_iload_n hx hb dX4_points_124 rfl (lv_at hl 1 rfl) ?_
    refine lv_iload_n hx hb dX4_points_125 rfl (lv_at hl 2 rfl) ?_
    refine m_ci (va_runS (As := [.int (zI 2)]) (rest := [.int (zI (y : Int)), .ref mo]) ⟨hx, hb, hml, hown, hts⟩ (metX4_above (by omega)) (va_cwS 1 hts (lw_S q3474 q3475 q102 q3476) rfl rfl rfl (by decide +kernel) ⟨Nat.le_of_ble_eq_true rfl, Nat.le_of_ble_eq_true rfl⟩) (m_preS hG) rfl rfl hl.1 rfl (lv_room (Nat.le_of_ble_eq_true rfl)) dX4_points_126 ⟨Nat.le_of_ble_eq_true rfl, Nat.le_of_ble_eq_true rfl⟩) hG (fun r_10 S_11 H locs hp hG => ?_)
    obtain ⟨rfl, rfl⟩ := hp
    have hG : mW X mo ad S s H locs := hG
    refine g_topz (y := 0) (by decide) ?_
    refine lv_iload_n hx hb dX4_points_129 rfl (lv_at hl 3 rfl) ?_
    refine m_ci (va_runV (As := [.int (zI (y : Int)), .int (zI 0), .int (zI x)]) (rest := []) ⟨hx, hb, hml, hown, hts⟩ (metX4_points_h1 (a := a) (y := y) (k := 0) (x := x) hX hA hy9 (by omega) (by omega)) (cwV 3 hts (lw_V q3710 q3712 qs80 q102 q3713) rfl rfl rfl (by decide +kernel) ⟨Nat.le_of_ble_eq_true rfl, Nat.le_of_ble_eq_true rfl⟩) (m_preV hG) rfl rfl hl.1 rfl (lv_room (Nat.le_of_ble_eq_true rfl)) dX4_points_130 ⟨Nat.le_of_ble_eq_true rfl, Nat.le_of_ble_eq_true rfl⟩) hG (fun r_13 S_14 H locs hp hG => ?_)
    obtain ⟨rfl, hY12⟩ := hp
    have hG : mW X mo ad S_14 s H locs := hG
    exact m_iret hx hb hr hlocks hG (⟨by first | rfl | (unfold ptV; rfl) | (unfold wgV; rfl) | (unfold clV; rfl), hY12⟩) ⟨Nat.le_of_ble_eq_true rfl, Nat.le_of_ble_eq_true rfl⟩ dX4_points_133
  · refine g_tin hx hb 3 (off := 74) (tgt := 75) dX4_points_1 hk (by decide) rfl (by decide) ?_
    subst hk
    refine lv_aload_n hx hb dX4_points_75 rfl (lv_at hl 0 rfl) ?_
    refine lv_bipush (v := zI 40) hx hb dX4_points_76 (by decide +kernel) ?_
    refine m_cv (va_runV (As := [.int (zI 40)]) (rest := []) ⟨hx, hb, hml, hown, hts⟩ (metX4_ran hX hA (by omega)) (cwV 1 hts (lw_V q3714 q3716 qs81 q102 q3717) rfl rfl rfl (by decide +kernel) ⟨Nat.le_of_ble_eq_true rfl, Nat.le_of_ble_eq_true rfl⟩) (m_preV hG) rfl rfl hl.1 rfl (lv_room (Nat.le_of_ble_eq_true rfl)) dX4_points_78 ⟨Nat.le_of_ble_eq_true rfl, Nat.le_of_ble_eq_true rfl⟩) hG (fun S_16 H locs hp hG => ?_)
    have hX1 := hp
    have hG : mW X mo ad S_16 s H locs := hG
    have hA1 : aOK (aSetT a (aTr a ++ [40])) := hA.t (by rw [List.length_append]; show _ + 1 ≤ 20; omega)
    have hl1 : (aTr (aSetT a (aTr a ++ [40]))).length = (aTr a).length + 1 := List.length_append
    refine lv_aload_n hx hb dX4_points_81 rfl (lv_at hl 0 rfl) ?_
    refine lv_iload_n hx hb dX4_points_82 rfl (lv_at hl 1 rfl) ?_
    refine lv_iconst (v := zI 1) hx hb dX4_points_83 (by decide +kernel) ?_
    refine lv_iload_n hx hb dX4_points_84 rfl (lv_at hl 3 rfl) ?_
    refine lv_iconst (v := zI 1) hx hb dX4_points_85 (by decide +kernel) ?_
    refine g_iadd hx hb dX4_points_86 ?_
    refine m_ci (va_runV (As := [.int (zI (y : Int)), .int (zI 1), .int (zI (x + 1))]) (rest := []) ⟨hx, hb, hml, hown, hts⟩ (metX4_points_h1 (a := (aSetT a (aTr a ++ [40]))) (y := y) (k := 1) (x := (x + 1)) hX1 hA1 hy9 (by omega) (by omega)) (cwV 3 hts (lw_V q3710 q3712 qs80 q102 q3713) rfl rfl rfl (by decide +kernel) ⟨Nat.le_of_ble_eq_true rfl, Nat.le_of_ble_eq_true rfl⟩) (m_preV hG) rfl rfl hl.1 rfl (lv_room (Nat.le_of_ble_eq_true rfl)) dX4_points_87 ⟨Nat.le_of_ble_eq_true rfl, Nat.le_of_ble_eq_true rfl⟩) hG (fun r_18 S_19 H locs hp hG => ?_)
    obtain ⟨rfl, hY17⟩ := hp
    have hG : mW X mo ad S_19 s H locs := hG
    exact m_iret hx hb hr hlocks hG (⟨by first | rfl | (unfold ptV; rfl) | (unfold wgV; rfl) | (unfold clV; rfl), hY17.ap (u := [40]) rfl⟩) ⟨Nat.le_of_ble_eq_true rfl, Nat.le_of_ble_eq_true rfl⟩ dX4_points_90
  · refine g_tin hx hb 4 (off := 90) (tgt := 91) dX4_points_1 hk (by decide) rfl (by decide) ?_
    subst hk
    refine lv_aload_n hx hb dX4_points_91 rfl (lv_at hl 0 rfl) ?_
    refine lv_bipush (v := zI 51) hx hb dX4_points_92 (by decide +kernel) ?_
    refine m_cv (va_runV (As := [.int (zI 51)]) (rest := []) ⟨hx, hb, hml, hown, hts⟩ (metX4_ran hX hA (by omega)) (cwV 1 hts (lw_V q3714 q3716 qs81 q102 q3717) rfl rfl rfl (by decide +kernel) ⟨Nat.le_of_ble_eq_true rfl, Nat.le_of_ble_eq_true rfl⟩) (m_preV hG) rfl rfl hl.1 rfl (lv_room (Nat.le_of_ble_eq_true rfl)) dX4_points_94 ⟨Nat.le_of_ble_eq_true rfl, Nat.le_of_ble_eq_true rfl⟩) hG (fun S_21 H locs hp hG => ?_)
    have hX1 := hp
    have hG : mW X mo ad S_21 s H locs := hG
    have hA1 : aOK (aSetT a (aTr a ++ [51])) := hA.t (by rw [List.length_append]; show _ + 1 ≤ 20; omega)
    have hl1 : (aTr (aSetT a (aTr a ++ [51]))).length = (aTr a).length + 1 := List.length_append
    refine lv_aload_n hx hb dX4_points_97 rfl (lv_at hl 0 rfl) ?_
    refine lv_iload_n hx hb dX4_points_98 rfl (lv_at hl 1 rfl) ?_
    refine lv_iconst (v := zI 0) hx hb dX4_points_99 (by decide +kernel) ?_
    refine lv_iload_n hx hb dX4_points_100 rfl (lv_at hl 3 rfl) ?_
    refine m_ci (va_runV (As := [.int (zI (y : Int)), .int (zI 0), .int (zI x)]) (rest := []) ⟨hx, hb, hml, hown, hts⟩ (metX4_points_h1 (a := (aSetT a (aTr a ++ [51]))) (y := y) (k := 0) (x := x) hX1 hA1 hy9 (by omega) (by omega)) (cwV 3 hts (lw_V q3710 q3712 qs80 q102 q3713) rfl rfl rfl (by decide +kernel) ⟨Nat.le_of_ble_eq_true rfl, Nat.le_of_ble_eq_true rfl⟩) (m_preV hG) rfl rfl hl.1 rfl (lv_room (Nat.le_of_ble_eq_true rfl)) dX4_points_101 ⟨Nat.le_of_ble_eq_true rfl, Nat.le_of_ble_eq_true rfl⟩) hG (fun r_23 S_24 H locs hp hG => ?_)
    obtain ⟨rfl, hY22⟩ := hp
    have hG : mW X mo ad S_24 s H locs := hG
    refine lv_iload_n hx hb dX4_points_104 rfl (lv_at hl 1 rfl) ?_
    refine g_isub hx hb dX4_points_105 ?_
    exact m_iret hx hb hr hlocks hG (⟨by first | rfl | (unfold ptV; rfl) | (unfold wgV; rfl) | (unfold clV; rfl), hY22.ap (u := [51]) rfl⟩) ⟨Nat.le_of_ble_eq_true rfl, Nat.le_of_ble_eq_true rfl⟩ dX4_points_106
  · refine g_tin hx hb 5 (off := 122) (tgt := 123) dX4_points_1 hk (by decide) rfl (by decide) ?_
    subst hk
    refine lv_aload_n hx hb dX4_points_123 rfl (lv_at hl 0 rfl) ?_
    refine lv_iload_n hx hb dX4_points_124 rfl (lv_at hl 1 rfl) ?_
    refine lv_iload_n hx hb dX4_points_125 rfl (lv_at hl 2 rfl) ?_
    refine m_ci (va_runS (As := [.int (zI 5)]) (rest := [.int (zI (y : Int)), .ref mo]) ⟨hx, hb, hml, hown, hts⟩ (metX4_above (by omega)) (va_cwS 1 hts (lw_S q3474 q3475 q102 q3476) rfl rfl rfl (by decide +kernel) ⟨Nat.le_of_ble_eq_true rfl, Nat.le_of_ble_eq_true rfl⟩) (m_preS hG) rfl rfl hl.1 rfl (lv_room (Nat.le_of_ble_eq_true rfl)) dX4_points_126 ⟨Nat.le_of_ble_eq_true rfl, Nat.le_of_ble_eq_true rfl⟩) hG (fun r_25 S_26 H locs hp hG => ?_)
    obtain ⟨rfl, rfl⟩ := hp
    have hG : mW X mo ad S s H locs := hG
    refine g_topz (y := 2) (by decide) ?_
    refine lv_iload_n hx hb dX4_points_129 rfl (lv_at hl 3 rfl) ?_
    refine m_ci (va_runV (As := [.int (zI (y : Int)), .int (zI 2), .int (zI x)]) (rest := []) ⟨hx, hb, hml, hown, hts⟩ (metX4_points_h1 (a := a) (y := y) (k := 2) (x := x) hX hA hy9 (by omega) (by omega)) (cwV 3 hts (lw_V q3710 q3712 qs80 q102 q3713) rfl rfl rfl (by decide +kernel) ⟨Nat.le_of_ble_eq_true rfl, Nat.le_of_ble_eq_true rfl⟩) (m_preV hG) rfl rfl hl.1 rfl (lv_room (Nat.le_of_ble_eq_true rfl)) dX4_points_130 ⟨Nat.le_of_ble_eq_true rfl, Nat.le_of_ble_eq_true rfl⟩) hG (fun r_28 S_29 H locs hp hG => ?_)
    obtain ⟨rfl, hY27⟩ := hp
    have hG : mW X mo ad S_29 s H locs := hG
    exact m_iret hx hb hr hlocks hG (⟨by first | rfl | (unfold ptV; rfl) | (unfold wgV; rfl) | (unfold clV; rfl), hY27⟩) ⟨Nat.le_of_ble_eq_true rfl, Nat.le_of_ble_eq_true rfl⟩ dX4_points_133

set_option maxHeartbeats 4000000 in
theorem metX4_points_h3 {l : Launch} {X : gX} {mo : Nat} {ad : Nat → Nat} {S : mS} {a : aS} (hX : mX S a) (hA : aOK a) {y : Nat} {k x : Int} (hy9 : y < wM (aWd a)) (hk9 : k = 0 ∨ k = 1 ∨ k = 2 ∨ k = 3 ∨ k = 4 ∨ k = 5 ∨ k = 6) (hlen : (aTr a).length + 4 ≤ 20) : Met l yX4_points (ws_ yX4_points cX4_points 4 (some FieldType.int)) ({ frames := 4, cells := 0, slots := 0, locals := 90 }) (mP X mo ad S [.ref mo, .int (zI (y : Int)), .int (zI k), .int (zI x)]) (mQi X mo ad (fun u T => u = zI (ptV (y : Int) (rBy (wRk (aWd a) y) : Int) k x) ∧ mX T (aSetT a (aTr a ++ ptT k)))) 0 0 (mA mo ad) := by
  refine Met.m (by decide) (Nat.le_of_ble_eq_true rfl) ?_
  intro p e s m below meth c ls hx hb hr hts hown hlocks hml hG hl
  have hl : lv_has ls 4 [(0, .ref mo), (1, .int (zI (y : Int))), (2, .int (zI k)), (3, .int (zI x))] := hl
  have hMM := hA.w.m
  have hNN := hA.w.n
  refine lv_iload_n hx hb dX4_points_0 rfl (lv_at hl 2 rfl) ?_
  rcases (show k = 0 ∨ k = 1 ∨ k = 2 ∨ k = 3 ∨ k = 4 ∨ k = 5 ∨ k = 6 by omega) with hk | hk | hk | hk | hk | hk | hk
  · refine g_tin hx hb 0 (off := 43) (tgt := 44) dX4_points_1 hk (by decide) rfl (by decide) ?_
    subst hk
    refine lv_aload_n hx hb dX4_points_44 rfl (lv_at hl 0 rfl) ?_
    refine lv_bipush (v := zI 10) hx hb dX4_points_45 (by decide +kernel) ?_
    refine m_cv (va_runV (As := [.int (zI 10)]) (rest := []) ⟨hx, hb, hml, hown, hts⟩ (metX4_ran hX hA (by omega)) (cwV 1 hts (lw_V q3714 q3716 qs81 q102 q3717) rfl rfl rfl (by decide +kernel) ⟨Nat.le_of_ble_eq_true rfl, Nat.le_of_ble_eq_true rfl⟩) (m_preV hG) rfl rfl hl.1 rfl (lv_room (Nat.le_of_ble_eq_true rfl)) dX4_points_47 ⟨Nat.le_of_ble_eq_true rfl, Nat.le_of_ble_eq_true rfl⟩) hG (fun S_2 H locs hp hG => ?_)
    have hX1 := hp
    have hG : mW X mo ad S_2 s H locs := hG
    have hA1 : aOK (aSetT a (aTr a ++ [10])) := hA.t (by rw [List.length_append]; show _ + 1 ≤ 20; omega)
    have hl1 : (aTr (aSetT a (aTr a ++ [10]))).length = (aTr a).length + 1 := List.length_append
    refine lv_iload_n hx hb dX4_points_50 rfl (lv_at hl 3 rfl) ?_
    refine lv_iload_n hx hb dX4_points_51 rfl (lv_at hl 1 rfl) ?_
    refine g_iadd hx hb dX4_points_52 ?_
    exact m_iret hx hb hr hlocks hG (⟨congrArg zI (show _ = (x + (y : Int)) by omega), hX1⟩) ⟨Nat.le_of_ble_eq_true rfl, Nat.le_of_ble_eq_true rfl⟩ dX4_points_53
  · refine g_tin hx hb 1 (off := 53) (tgt := 54) dX4_points_1 hk (by decide) rfl (by decide) ?_
    subst hk
    refine lv_aload_n hx hb dX4_points_54 rfl (lv_at hl 0 rfl) ?_
    refine lv_bipush (v := zI 20) hx hb dX4_points_55 (by decide +kernel) ?_
    refine m_cv (va_runV (As := [.int (zI 20)]) (rest := []) ⟨hx, hb, hml, hown, hts⟩ (metX4_ran hX hA (by omega)) (cwV 1 hts (lw_V q3714 q3716 qs81 q102 q3717) rfl rfl rfl (by decide +kernel) ⟨Nat.le_of_ble_eq_true rfl, Nat.le_of_ble_eq_true rfl⟩) (m_preV hG) rfl rfl hl.1 rfl (lv_room (Nat.le_of_ble_eq_true rfl)) dX4_points_57 ⟨Nat.le_of_ble_eq_true rfl, Nat.le_of_ble_eq_true rfl⟩) hG (fun S_4 H locs hp hG => ?_)
    have hX1 := hp
    have hG : mW X mo ad S_4 s H locs := hG
    have hA1 : aOK (aSetT a (aTr a ++ [20])) := hA.t (by rw [List.length_append]; show _ + 1 ≤ 20; omega)
    have hl1 : (aTr (aSetT a (aTr a ++ [20]))).length = (aTr a).length + 1 := List.length_append
    refine lv_aload_n hx hb dX4_points_60 rfl (lv_at hl 0 rfl) ?_
    refine lv_iload_n hx hb dX4_points_61 rfl (lv_at hl 1 rfl) ?_
    refine lv_iconst (v := zI 0) hx hb dX4_points_62 (by decide +kernel) ?_
    refine lv_iload_n hx hb dX4_points_63 rfl (lv_at hl 3 rfl) ?_
    refine m_ci (va_runV (As := [.int (zI (y : Int)), .int (zI 0), .int (zI x)]) (rest := []) ⟨hx, hb, hml, hown, hts⟩ (metX4_points_h2 (a := (aSetT a (aTr a ++ [20]))) (y := y) (k := 0) (x := x) hX1 hA1 hy9 (by omega) (by omega)) (cwV 3 hts (lw_V q3710 q3712 qs80 q102 q3713) rfl rfl rfl (by decide +kernel) ⟨Nat.le_of_ble_eq_true rfl, Nat.le_of_ble_eq_true rfl⟩) (m_preV hG) rfl rfl hl.1 rfl (lv_room (Nat.le_of_ble_eq_true rfl)) dX4_points_64 ⟨Nat.le_of_ble_eq_true rfl, Nat.le_of_ble_eq_true rfl⟩) hG (fun r_6 S_7 H locs hp hG => ?_)
    obtain ⟨rfl, hY5⟩ := hp
    have hG : mW X mo ad S_7 s H locs := hG
    refine lv_aload_n hx hb dX4_points_67 rfl (lv_at hl 0 rfl) ?_
    refine lv_iconst (v := zI 1) hx hb dX4_points_68 (by decide +kernel) ?_
    refine lv_iload_n hx hb dX4_points_69 rfl (lv_at hl 1 rfl) ?_
    refine m_ci (va_runV (As := [.int (zI 1), .int (zI (y : Int))]) (rest := [.int (zI (ptV (y : Int) (rBy (wRk (aWd a) y) : Int) 0 x))]) ⟨hx, hb, hml, hown, hts⟩ (metX4_of 1 (m0 := y) (by omega)) (cwV 2 hts (lw_V q3467 q3469 qs47 q102 q3470) rfl rfl rfl (by decide +kernel) ⟨Nat.le_of_ble_eq_true rfl, Nat.le_of_ble_eq_true rfl⟩) (m_preV hG) rfl rfl hl.1 rfl (lv_room (Nat.le_of_ble_eq_true rfl)) dX4_points_70 ⟨Nat.le_of_ble_eq_true rfl, Nat.le_of_ble_eq_true rfl⟩) hG (fun r_8 S_9 H locs hp hG => ?_)
    obtain ⟨rfl, rfl⟩ := hp
    have hG : mW X mo ad S_7 s H locs := hG
    refine g_topz (y := (rBy (wRk (aWd a) y) : Int)) ((show mO S_7 (aWd a) from hY5.o).by (m := y) (by omega)) ?_
    have hv1 := hA.w.rk (m := y) (by omega)
    refine g_iadd hx hb dX4_points_73 ?_
    exact m_iret hx hb hr hlocks hG (⟨by first | rfl | (unfold ptV; rfl) | (unfold wgV; rfl) | (unfold clV; rfl), hY5.ap (u := [20]) rfl⟩) ⟨Nat.le_of_ble_eq_true rfl, Nat.le_of_ble_eq_true rfl⟩ dX4_points_74
  · refine g_tin hx hb 2 (off := 122) (tgt := 123) dX4_points_1 hk (by decide) rfl (by decide) ?_
    subst hk
    refine lv_aload_n hx hb dX4_points_123 rfl (lv_at hl 0 rfl) ?_
    refine lv_iload_n hx hb dX4_points_124 rfl (lv_at hl 1 rfl) ?_
    refine lv_iload_n hx hb dX4_points_125 rfl (lv_at hl 2 rfl) ?_
    refine m_ci (va_runS (As := [.int (zI 2)]) (rest := [.int (zI (y : Int)), .ref mo]) ⟨hx, hb, hml, hown, hts⟩ (metX4_above (by omega)) (va_cwS 1 hts (lw_S q3474 q3475 q102 q3476) rfl rfl rfl (by decide +kernel) ⟨Nat.le_of_ble_eq_true rfl, Nat.le_of_ble_eq_true rfl⟩) (m_preS hG) rfl rfl hl.1 rfl (lv_room (Nat.le_of_ble_eq_true rfl)) dX4_points_126 ⟨Nat.le_of_ble_eq_true rfl, Nat.le_of_ble_eq_true rfl⟩) hG (fun r_10 S_11 H locs hp hG => ?_)
    obtain ⟨rfl, rfl⟩ := hp
    have hG : mW X mo ad S s H locs := hG
    refine g_topz (y := 0) (by decide) ?_
    refine lv_iload_n hx hb dX4_points_129 rfl (lv_at hl 3 rfl) ?_
    refine m_ci (va_runV (As := [.int (zI (y : Int)), .int (zI 0), .int (zI x)]) (rest := []) ⟨hx, hb, hml, hown, hts⟩ (metX4_points_h2 (a := a) (y := y) (k := 0) (x := x) hX hA hy9 (by omega) (by omega)) (cwV 3 hts (lw_V q3710 q3712 qs80 q102 q3713) rfl rfl rfl (by decide +kernel) ⟨Nat.le_of_ble_eq_true rfl, Nat.le_of_ble_eq_true rfl⟩) (m_preV hG) rfl rfl hl.1 rfl (lv_room (Nat.le_of_ble_eq_true rfl)) dX4_points_130 ⟨Nat.le_of_ble_eq_true rfl, Nat.le_of_ble_eq_true rfl⟩) hG (fun r_13 S_14 H locs hp hG => ?_)
    obtain ⟨rfl, hY12⟩ := hp
    have hG : mW X mo ad S_14 s H locs := hG
    exact m_iret hx hb hr hlocks hG (⟨by first | rfl | (unfold ptV; rfl) | (unfold wgV; rfl) | (unfold clV; rfl), hY12⟩) ⟨Nat.le_of_ble_eq_true rfl, Nat.le_of_ble_eq_true rfl⟩ dX4_points_133
  · refine g_tin hx hb 3 (off := 74) (tgt := 75) dX4_points_1 hk (by decide) rfl (by decide) ?_
    subst hk
    refine lv_aload_n hx hb dX4_points_75 rfl (lv_at hl 0 rfl) ?_
    refine lv_bipush (v := zI 40) hx hb dX4_points_76 (by decide +kernel) ?_
    refine m_cv (va_runV (As := [.int (zI 40)]) (rest := []) ⟨hx, hb, hml, hown, hts⟩ (metX4_ran hX hA (by omega)) (cwV 1 hts (lw_V q3714 q3716 qs81 q102 q3717) rfl rfl rfl (by decide +kernel) ⟨Nat.le_of_ble_eq_true rfl, Nat.le_of_ble_eq_true rfl⟩) (m_preV hG) rfl rfl hl.1 rfl (lv_room (Nat.le_of_ble_eq_true rfl)) dX4_points_78 ⟨Nat.le_of_ble_eq_true rfl, Nat.le_of_ble_eq_true rfl⟩) hG (fun S_16 H locs hp hG => ?_)
    have hX1 := hp
    have hG : mW X mo ad S_16 s H locs := hG
    have hA1 : aOK (aSetT a (aTr a ++ [40])) := hA.t (by rw [List.length_append]; show _ + 1 ≤ 20; omega)
    have hl1 : (aTr (aSetT a (aTr a ++ [40]))).length = (aTr a).length + 1 := List.length_append
    refine lv_aload_n hx hb dX4_points_81 rfl (lv_at hl 0 rfl) ?_
    refine lv_iload_n hx hb dX4_points_82 rfl (lv_at hl 1 rfl) ?_
    refine lv_iconst (v := zI 1) hx hb dX4_points_83 (by decide +kernel) ?_
    refine lv_iload_n hx hb dX4_points_84 rfl (lv_at hl 3 rfl) ?_
    refine lv_iconst (v := zI 1) hx hb dX4_points_85 (by decide +kernel) ?_
    refine g_iadd hx hb dX4_points_86 ?_
    refine m_ci (va_runV (As := [.int (zI (y : Int)), .int (zI 1), .int (zI (x + 1))]) (rest := []) ⟨hx, hb, hml, hown, hts⟩ (metX4_points_h2 (a := (aSetT a (aTr a ++ [40]))) (y := y) (k := 1) (x := (x + 1)) hX1 hA1 hy9 (by omega) (by omega)) (cwV 3 hts (lw_V q3710 q3712 qs80 q102 q3713) rfl rfl rfl (by decide +kernel) ⟨Nat.le_of_ble_eq_true rfl, Nat.le_of_ble_eq_true rfl⟩) (m_preV hG) rfl rfl hl.1 rfl (lv_room (Nat.le_of_ble_eq_true rfl)) dX4_points_87 ⟨Nat.le_of_ble_eq_true rfl, Nat.le_of_ble_eq_true rfl⟩) hG (fun r_18 S_19 H locs hp hG => ?_)
    obtain ⟨rfl, hY17⟩ := hp
    have hG : mW X mo ad S_19 s H locs := hG
    exact m_iret hx hb hr hlocks hG (⟨by first | rfl | (unfold ptV; rfl) | (unfold wgV; rfl) | (unfold clV; rfl), hY17.ap (u := [40]) rfl⟩) ⟨Nat.le_of_ble_eq_true rfl, Nat.le_of_ble_eq_true rfl⟩ dX4_points_90
  · refine g_tin hx hb 4 (off := 90) (tgt := 91) dX4_points_1 hk (by decide) rfl (by decide) ?_
    subst hk
    refine lv_aload_n hx hb dX4_points_91 rfl (lv_at hl 0 rfl) ?_
    refine lv_bipush (v := zI 51) hx hb dX4_points_92 (by decide +kernel) ?_
    refine m_cv (va_runV (As := [.int (zI 51)]) (rest := []) ⟨hx, hb, hml, hown, hts⟩ (metX4_ran hX hA (by omega)) (cwV 1 hts (lw_V q3714 q3716 qs81 q102 q3717) rfl rfl rfl (by decide +kernel) ⟨Nat.le_of_ble_eq_true rfl, Nat.le_of_ble_eq_true rfl⟩) (m_preV hG) rfl rfl hl.1 rfl (lv_room (Nat.le_of_ble_eq_true rfl)) dX4_points_94 ⟨Nat.le_of_ble_eq_true rfl, Nat.le_of_ble_eq_true rfl⟩) hG (fun S_21 H locs hp hG => ?_)
    have hX1 := hp
    have hG : mW X mo ad S_21 s H locs := hG
    have hA1 : aOK (aSetT a (aTr a ++ [51])) := hA.t (by rw [List.length_append]; show _ + 1 ≤ 20; omega)
    have hl1 : (aTr (aSetT a (aTr a ++ [51]))).length = (aTr a).length + 1 := List.length_append
    refine lv_aload_n hx hb dX4_points_97 rfl (lv_at hl 0 rfl) ?_
    refine lv_iload_n hx hb dX4_points_98 rfl (lv_at hl 1 rfl) ?_
    refine lv_iconst (v := zI 0) hx hb dX4_points_99 (by decide +kernel) ?_
    refine lv_iload_n hx hb dX4_points_100 rfl (lv_at hl 3 rfl) ?_
    refine m_ci (va_runV (As := [.int (zI (y : Int)), .int (zI 0), .int (zI x)]) (rest := []) ⟨hx, hb, hml, hown, hts⟩ (metX4_points_h2 (a := (aSetT a (aTr a ++ [51]))) (y := y) (k := 0) (x := x) hX1 hA1 hy9 (by omega) (by omega)) (cwV 3 hts (lw_V q3710 q3712 qs80 q102 q3713) rfl rfl rfl (by decide +kernel) ⟨Nat.le_of_ble_eq_true rfl, Nat.le_of_ble_eq_true rfl⟩) (m_preV hG) rfl rfl hl.1 rfl (lv_room (Nat.le_of_ble_eq_true rfl)) dX4_points_101 ⟨Nat.le_of_ble_eq_true rfl, Nat.le_of_ble_eq_true rfl⟩) hG (fun r_23 S_24 H locs hp hG => ?_)
    obtain ⟨rfl, hY22⟩ := hp
    have hG : mW X mo ad S_24 s H locs := hG
    refine lv_iload_n hx hb dX4_points_104 rfl (lv_at hl 1 rfl) ?_
    refine g_isub hx hb dX4_points_105 ?_
    exact m_iret hx hb hr hlocks hG (⟨by first | rfl | (unfold ptV; rfl) | (unfold wgV; rfl) | (unfold clV; rfl), hY22.ap (u := [51]) rfl⟩) ⟨Nat.le_of_ble_eq_true rfl, Nat.le_of_ble_eq_true rfl⟩ dX4_points_106
  · refine g_tin hx hb 5 (off := 122) (tgt := 123) dX4_points_1 hk (by decide) rfl (by decide) ?_
    subst hk
    refine lv_aload_n hx hb dX4_points_123 rfl (lv_at hl 0 rfl) ?_
    refine lv_iload_n hx hb dX4_points_124 rfl (lv_at hl 1 rfl) ?_
    refine lv_iload_n hx hb dX4_points_125 rfl (lv_at hl 2 rfl) ?_
    refine m_ci (va_runS (As := [.int (zI 5)]) (rest := [.int (zI (y : Int)), .ref mo]) ⟨hx, hb, hml, hown, hts⟩ (metX4_above (by omega)) (va_cwS 1 hts (lw_S q3474 q3475 q102 q3476) rfl rfl rfl (by decide +kernel) ⟨Nat.le_of_ble_eq_true rfl, Nat.le_of_ble_eq_true rfl⟩) (m_preS hG) rfl rfl hl.1 rfl (lv_room (Nat.le_of_ble_eq_true rfl)) dX4_points_126 ⟨Nat.le_of_ble_eq_true rfl, Nat.le_of_ble_eq_true rfl⟩) hG (fun r_25 S_26 H locs hp hG => ?_)
    obtain ⟨rfl, rfl⟩ := hp
    have hG : mW X mo ad S s H locs := hG
    refine g_topz (y := 2) (by decide) ?_
    refine lv_iload_n hx hb dX4_points_129 rfl (lv_at hl 3 rfl) ?_
    refine m_ci (va_runV (As := [.int (zI (y : Int)), .int (zI 2), .int (zI x)]) (rest := []) ⟨hx, hb, hml, hown, hts⟩ (metX4_points_h2 (a := a) (y := y) (k := 2) (x := x) hX hA hy9 (by omega) (by omega)) (cwV 3 hts (lw_V q3710 q3712 qs80 q102 q3713) rfl rfl rfl (by decide +kernel) ⟨Nat.le_of_ble_eq_true rfl, Nat.le_of_ble_eq_true rfl⟩) (m_preV hG) rfl rfl hl.1 rfl (lv_room (Nat.le_of_ble_eq_true rfl)) dX4_points_130 ⟨Nat.le_of_ble_eq_true rfl, Nat.le_of_ble_eq_true rfl⟩) hG (fun r_28 S_29 H locs hp hG => ?_)
    obtain ⟨rfl, hY27⟩ := hp
    have hG : mW X mo ad S_29 s H locs := hG
    exact m_iret hx hb hr hlocks hG (⟨by first | rfl | (unfold ptV; rfl) | (unfold wgV; rfl) | (unfold clV; rfl), hY27⟩) ⟨Nat.le_of_ble_eq_true rfl, Nat.le_of_ble_eq_true rfl⟩ dX4_points_133
  · refine g_tin hx hb 6 (off := 106) (tgt := 107) dX4_points_1 hk (by decide) rfl (by decide) ?_
    subst hk
    refine lv_aload_n hx hb dX4_points_107 rfl (lv_at hl 0 rfl) ?_
    refine lv_bipush (v := zI 70) hx hb dX4_points_108 (by decide +kernel) ?_
    refine m_cv (va_runV (As := [.int (zI 70)]) (rest := []) ⟨hx, hb, hml, hown, hts⟩ (metX4_ran hX hA (by omega)) (cwV 1 hts (lw_V q3714 q3716 qs81 q102 q3717) rfl rfl rfl (by decide +kernel) ⟨Nat.le_of_ble_eq_true rfl, Nat.le_of_ble_eq_true rfl⟩) (m_preV hG) rfl rfl hl.1 rfl (lv_room (Nat.le_of_ble_eq_true rfl)) dX4_points_110 ⟨Nat.le_of_ble_eq_true rfl, Nat.le_of_ble_eq_true rfl⟩) hG (fun S_31 H locs hp hG => ?_)
    have hX1 := hp
    have hG : mW X mo ad S_31 s H locs := hG
    have hA1 : aOK (aSetT a (aTr a ++ [70])) := hA.t (by rw [List.length_append]; show _ + 1 ≤ 20; omega)
    have hl1 : (aTr (aSetT a (aTr a ++ [70]))).length = (aTr a).length + 1 := List.length_append
    refine lv_aload_n hx hb dX4_points_113 rfl (lv_at hl 0 rfl) ?_
    refine lv_iload_n hx hb dX4_points_114 rfl (lv_at hl 1 rfl) ?_
    refine lv_iconst (v := zI 3) hx hb dX4_points_115 (by decide +kernel) ?_
    refine lv_iload_n hx hb dX4_points_116 rfl (lv_at hl 3 rfl) ?_
    refine m_ci (va_runV (As := [.int (zI (y : Int)), .int (zI 3), .int (zI x)]) (rest := []) ⟨hx, hb, hml, hown, hts⟩ (metX4_points_h2 (a := (aSetT a (aTr a ++ [70]))) (y := y) (k := 3) (x := x) hX1 hA1 hy9 (by omega) (by omega)) (cwV 3 hts (lw_V q3710 q3712 qs80 q102 q3713) rfl rfl rfl (by decide +kernel) ⟨Nat.le_of_ble_eq_true rfl, Nat.le_of_ble_eq_true rfl⟩) (m_preV hG) rfl rfl hl.1 rfl (lv_room (Nat.le_of_ble_eq_true rfl)) dX4_points_117 ⟨Nat.le_of_ble_eq_true rfl, Nat.le_of_ble_eq_true rfl⟩) hG (fun r_33 S_34 H locs hp hG => ?_)
    obtain ⟨rfl, hY32⟩ := hp
    have hG : mW X mo ad S_34 s H locs := hG
    refine lv_iconst (v := zI 2) hx hb dX4_points_120 (by decide +kernel) ?_
    refine g_imul hx hb dX4_points_121 ?_
    exact m_iret hx hb hr hlocks hG (⟨by first | rfl | (unfold ptV; rfl) | (unfold wgV; rfl) | (unfold clV; rfl), hY32.ap (u := [70]) rfl⟩) ⟨Nat.le_of_ble_eq_true rfl, Nat.le_of_ble_eq_true rfl⟩ dX4_points_122

set_option maxHeartbeats 4000000 in
theorem metX4_weighs_h0 {l : Launch} {X : gX} {mo : Nat} {ad : Nat → Nat} {S : mS} {a : aS} (hX : mX S a) (hA : aOK a) {y : Nat} {k x : Int} (hy9 : y < wM (aWd a)) (hk9 : k = 0) (hlen : (aTr a).length + 7 ≤ 20) : Met l yX4_weighs (ws_ yX4_weighs cX4_weighs 4 (some FieldType.int)) ({ frames := 5, cells := 0, slots := 0, locals := 113 }) (mP X mo ad S [.ref mo, .int (zI (y : Int)), .int (zI k), .int (zI x)]) (mQi X mo ad (fun u T => u = zI (wgV (y : Int) (rBy (wRk (aWd a) y) : Int) (rKind (wRk (aWd a) y) : Int) k x) ∧ mX T (aSetT a (aTr a ++ wgT (rKind (wRk (aWd a) y) : Int) k)))) 0 0 (mA mo ad) := by
  refine Met.m (by decide) (Nat.le_of_ble_eq_true rfl) ?_
  intro p e s m below meth c ls hx hb hr hts hown hlocks hml hG hl
  have hl : lv_has ls 4 [(0, .ref mo), (1, .int (zI (y : Int))), (2, .int (zI k)), (3, .int (zI x))] := hl
  have hMM := hA.w.m
  have hNN := hA.w.n
  refine lv_iload_n hx hb dX4_weighs_0 rfl (lv_at hl 2 rfl) ?_
  rcases (show k = 0 by omega) with hk
  · refine g_look hx hb 0 (off := 35) (tgt := 36) dX4_weighs_1 hk (by decide) rfl rfl (by decide) ?_
    subst hk
    refine lv_aload_n hx hb dX4_weighs_36 rfl (lv_at hl 0 rfl) ?_
    refine lv_bipush (v := zI 11) hx hb dX4_weighs_37 (by decide +kernel) ?_
    refine m_cv (va_runV (As := [.int (zI 11)]) (rest := []) ⟨hx, hb, hml, hown, hts⟩ (metX4_ran hX hA (by omega)) (cwV 1 hts (lw_V q3714 q3716 qs81 q102 q3717) rfl rfl rfl (by decide +kernel) ⟨Nat.le_of_ble_eq_true rfl, Nat.le_of_ble_eq_true rfl⟩) (m_preV hG) rfl rfl hl.1 rfl (lv_room (Nat.le_of_ble_eq_true rfl)) dX4_weighs_39 ⟨Nat.le_of_ble_eq_true rfl, Nat.le_of_ble_eq_true rfl⟩) hG (fun S_2 H locs hp hG => ?_)
    have hX1 := hp
    have hG : mW X mo ad S_2 s H locs := hG
    have hA1 : aOK (aSetT a (aTr a ++ [11])) := hA.t (by rw [List.length_append]; show _ + 1 ≤ 20; omega)
    have hl1 : (aTr (aSetT a (aTr a ++ [11]))).length = (aTr a).length + 1 := List.length_append
    refine lv_aload_n hx hb dX4_weighs_42 rfl (lv_at hl 0 rfl) ?_
    refine lv_iload_n hx hb dX4_weighs_43 rfl (lv_at hl 1 rfl) ?_
    refine lv_aload_n hx hb dX4_weighs_44 rfl (lv_at hl 0 rfl) ?_
    refine lv_iconst (v := zI 0) hx hb dX4_weighs_45 (by decide +kernel) ?_
    refine lv_iload_n hx hb dX4_weighs_46 rfl (lv_at hl 1 rfl) ?_
    refine m_ci (va_runV (As := [.int (zI 0), .int (zI (y : Int))]) (rest := [.int (zI (y : Int)), .ref mo]) ⟨hx, hb, hml, hown, hts⟩ (metX4_of 0 (m0 := y) (by omega)) (cwV 2 hts (lw_V q3467 q3469 qs47 q102 q3470) rfl rfl rfl (by decide +kernel) ⟨Nat.le_of_ble_eq_true rfl, Nat.le_of_ble_eq_true rfl⟩) (m_preV hG) rfl rfl hl.1 rfl (lv_room (Nat.le_of_ble_eq_true rfl)) dX4_weighs_47 ⟨Nat.le_of_ble_eq_true rfl, Nat.le_of_ble_eq_true rfl⟩) hG (fun r_3 S_4 H locs hp hG => ?_)
    obtain ⟨rfl, rfl⟩ := hp
    have hG : mW X mo ad S_2 s H locs := hG
    refine g_topz (y := (rKind (wRk (aWd a) y) : Int)) ((congrArg (S_2.2.1 6) (by omega : 16 * 0 + y = y)).trans ((show mO S_2 (aWd a) from hX1.o).kd (m := y) (by omega))) ?_
    have hv1 := hA.w.rk (m := y) (by omega)
    refine lv_iload_n hx hb dX4_weighs_50 rfl (lv_at hl 3 rfl) ?_
    refine m_ci (va_runV (As := [.int (zI (y : Int)), .int (zI (rKind (wRk (aWd a) y) : Int)), .int (zI x)]) (rest := []) ⟨hx, hb, hml, hown, hts⟩ (metX4_points_h3 (a := (aSetT a (aTr a ++ [11]))) (y := y) (k := (rKind (wRk (aWd a) y) : Int)) (x := x) hX1 hA1 hy9 (by omega) (by omega)) (cwV 3 hts (lw_V q3710 q3712 qs80 q102 q3713) rfl rfl rfl (by decide +kernel) ⟨Nat.le_of_ble_eq_true rfl, Nat.le_of_ble_eq_true rfl⟩) (m_preV hG) rfl rfl hl.1 rfl (lv_room (Nat.le_of_ble_eq_true rfl)) dX4_weighs_51 ⟨Nat.le_of_ble_eq_true rfl, Nat.le_of_ble_eq_true rfl⟩) hG (fun r_6 S_7 H locs hp hG => ?_)
    obtain ⟨rfl, hY5⟩ := hp
    have hG : mW X mo ad S_7 s H locs := hG
    refine lv_iconst (v := zI 2) hx hb dX4_weighs_54 (by decide +kernel) ?_
    refine g_imul hx hb dX4_weighs_55 ?_
    exact m_iret hx hb hr hlocks hG (⟨by first | rfl | (unfold ptV; rfl) | (unfold wgV; rfl) | (unfold clV; rfl), hY5.ap (u := [11]) rfl⟩) ⟨Nat.le_of_ble_eq_true rfl, Nat.le_of_ble_eq_true rfl⟩ dX4_weighs_56

set_option maxHeartbeats 4000000 in
theorem metX4_weighs_h1 {l : Launch} {X : gX} {mo : Nat} {ad : Nat → Nat} {S : mS} {a : aS} (hX : mX S a) (hA : aOK a) {y : Nat} {k x : Int} (hy9 : y < wM (aWd a)) (hk9 : k = 0 ∨ k = 1 ∨ k = 2 ∨ k = 4) (hlen : (aTr a).length + 8 ≤ 20) : Met l yX4_weighs (ws_ yX4_weighs cX4_weighs 4 (some FieldType.int)) ({ frames := 6, cells := 0, slots := 0, locals := 136 }) (mP X mo ad S [.ref mo, .int (zI (y : Int)), .int (zI k), .int (zI x)]) (mQi X mo ad (fun u T => u = zI (wgV (y : Int) (rBy (wRk (aWd a) y) : Int) (rKind (wRk (aWd a) y) : Int) k x) ∧ mX T (aSetT a (aTr a ++ wgT (rKind (wRk (aWd a) y) : Int) k)))) 0 0 (mA mo ad) := by
  refine Met.m (by decide) (Nat.le_of_ble_eq_true rfl) ?_
  intro p e s m below meth c ls hx hb hr hts hown hlocks hml hG hl
  have hl : lv_has ls 4 [(0, .ref mo), (1, .int (zI (y : Int))), (2, .int (zI k)), (3, .int (zI x))] := hl
  have hMM := hA.w.m
  have hNN := hA.w.n
  refine lv_iload_n hx hb dX4_weighs_0 rfl (lv_at hl 2 rfl) ?_
  rcases (show k = 0 ∨ k = 1 ∨ k = 2 ∨ k = 4 by omega) with hk | hk | hk | hk
  · refine g_look hx hb 0 (off := 35) (tgt := 36) dX4_weighs_1 hk (by decide) rfl rfl (by decide) ?_
    subst hk
    refine lv_aload_n hx hb dX4_weighs_36 rfl (lv_at hl 0 rfl) ?_
    refine lv_bipush (v := zI 11) hx hb dX4_weighs_37 (by decide +kernel) ?_
    refine m_cv (va_runV (As := [.int (zI 11)]) (rest := []) ⟨hx, hb, hml, hown, hts⟩ (metX4_ran hX hA (by omega)) (cwV 1 hts (lw_V q3714 q3716 qs81 q102 q3717) rfl rfl rfl (by decide +kernel) ⟨Nat.le_of_ble_eq_true rfl, Nat.le_of_ble_eq_true rfl⟩) (m_preV hG) rfl rfl hl.1 rfl (lv_room (Nat.le_of_ble_eq_true rfl)) dX4_weighs_39 ⟨Nat.le_of_ble_eq_true rfl, Nat.le_of_ble_eq_true rfl⟩) hG (fun S_2 H locs hp hG => ?_)
    have hX1 := hp
    have hG : mW X mo ad S_2 s H locs := hG
    have hA1 : aOK (aSetT a (aTr a ++ [11])) := hA.t (by rw [List.length_append]; show _ + 1 ≤ 20; omega)
    have hl1 : (aTr (aSetT a (aTr a ++ [11]))).length = (aTr a).length + 1 := List.length_append
    refine lv_aload_n hx hb dX4_weighs_42 rfl (lv_at hl 0 rfl) ?_
    refine lv_iload_n hx hb dX4_weighs_43 rfl (lv_at hl 1 rfl) ?_
    refine lv_aload_n hx hb dX4_weighs_44 rfl (lv_at hl 0 rfl) ?_
    refine lv_iconst (v := zI 0) hx hb dX4_weighs_45 (by decide +kernel) ?_
    refine lv_iload_n hx hb dX4_weighs_46 rfl (lv_at hl 1 rfl) ?_
    refine m_ci (va_runV (As := [.int (zI 0), .int (zI (y : Int))]) (rest := [.int (zI (y : Int)), .ref mo]) ⟨hx, hb, hml, hown, hts⟩ (metX4_of 0 (m0 := y) (by omega)) (cwV 2 hts (lw_V q3467 q3469 qs47 q102 q3470) rfl rfl rfl (by decide +kernel) ⟨Nat.le_of_ble_eq_true rfl, Nat.le_of_ble_eq_true rfl⟩) (m_preV hG) rfl rfl hl.1 rfl (lv_room (Nat.le_of_ble_eq_true rfl)) dX4_weighs_47 ⟨Nat.le_of_ble_eq_true rfl, Nat.le_of_ble_eq_true rfl⟩) hG (fun r_3 S_4 H locs hp hG => ?_)
    obtain ⟨rfl, rfl⟩ := hp
    have hG : mW X mo ad S_2 s H locs := hG
    refine g_topz (y := (rKind (wRk (aWd a) y) : Int)) ((congrArg (S_2.2.1 6) (by omega : 16 * 0 + y = y)).trans ((show mO S_2 (aWd a) from hX1.o).kd (m := y) (by omega))) ?_
    have hv1 := hA.w.rk (m := y) (by omega)
    refine lv_iload_n hx hb dX4_weighs_50 rfl (lv_at hl 3 rfl) ?_
    refine m_ci (va_runV (As := [.int (zI (y : Int)), .int (zI (rKind (wRk (aWd a) y) : Int)), .int (zI x)]) (rest := []) ⟨hx, hb, hml, hown, hts⟩ (metX4_points_h3 (a := (aSetT a (aTr a ++ [11]))) (y := y) (k := (rKind (wRk (aWd a) y) : Int)) (x := x) hX1 hA1 hy9 (by omega) (by omega)) (cwV 3 hts (lw_V q3710 q3712 qs80 q102 q3713) rfl rfl rfl (by decide +kernel) ⟨Nat.le_of_ble_eq_true rfl, Nat.le_of_ble_eq_true rfl⟩) (m_preV hG) rfl rfl hl.1 rfl (lv_room (Nat.le_of_ble_eq_true rfl)) dX4_weighs_51 ⟨Nat.le_of_ble_eq_true rfl, Nat.le_of_ble_eq_true rfl⟩) hG (fun r_6 S_7 H locs hp hG => ?_)
    obtain ⟨rfl, hY5⟩ := hp
    have hG : mW X mo ad S_7 s H locs := hG
    refine lv_iconst (v := zI 2) hx hb dX4_weighs_54 (by decide +kernel) ?_
    refine g_imul hx hb dX4_weighs_55 ?_
    exact m_iret hx hb hr hlocks hG (⟨by first | rfl | (unfold ptV; rfl) | (unfold wgV; rfl) | (unfold clV; rfl), hY5.ap (u := [11]) rfl⟩) ⟨Nat.le_of_ble_eq_true rfl, Nat.le_of_ble_eq_true rfl⟩ dX4_weighs_56
  · refine g_look hx hb 1 (off := 93) (tgt := 94) dX4_weighs_1 hk (by decide) rfl rfl (by decide) ?_
    subst hk
    refine lv_aload_n hx hb dX4_weighs_94 rfl (lv_at hl 0 rfl) ?_
    refine lv_iload_n hx hb dX4_weighs_95 rfl (lv_at hl 1 rfl) ?_
    refine lv_iload_n hx hb dX4_weighs_96 rfl (lv_at hl 2 rfl) ?_
    refine m_ci (va_runS (As := [.int (zI 1)]) (rest := [.int (zI (y : Int)), .ref mo]) ⟨hx, hb, hml, hown, hts⟩ (metX4_above (by omega)) (va_cwS 1 hts (lw_S q3474 q3475 q102 q3476) rfl rfl rfl (by decide +kernel) ⟨Nat.le_of_ble_eq_true rfl, Nat.le_of_ble_eq_true rfl⟩) (m_preS hG) rfl rfl hl.1 rfl (lv_room (Nat.le_of_ble_eq_true rfl)) dX4_weighs_97 ⟨Nat.le_of_ble_eq_true rfl, Nat.le_of_ble_eq_true rfl⟩) hG (fun r_8 S_9 H locs hp hG => ?_)
    obtain ⟨rfl, rfl⟩ := hp
    have hG : mW X mo ad S s H locs := hG
    refine g_topz (y := 0) (by decide) ?_
    refine lv_iload_n hx hb dX4_weighs_100 rfl (lv_at hl 3 rfl) ?_
    refine m_ci (va_runV (As := [.int (zI (y : Int)), .int (zI 0), .int (zI x)]) (rest := []) ⟨hx, hb, hml, hown, hts⟩ (metX4_weighs_h0 (a := a) (y := y) (k := 0) (x := x) hX hA hy9 (by omega) (by omega)) (cwV 3 hts (lw_V q3718 q3720 qs82 q102 q3721) rfl rfl rfl (by decide +kernel) ⟨Nat.le_of_ble_eq_true rfl, Nat.le_of_ble_eq_true rfl⟩) (m_preV hG) rfl rfl hl.1 rfl (lv_room (Nat.le_of_ble_eq_true rfl)) dX4_weighs_101 ⟨Nat.le_of_ble_eq_true rfl, Nat.le_of_ble_eq_true rfl⟩) hG (fun r_11 S_12 H locs hp hG => ?_)
    obtain ⟨rfl, hY10⟩ := hp
    have hG : mW X mo ad S_12 s H locs := hG
    exact m_iret hx hb hr hlocks hG (⟨by first | rfl | (unfold ptV; rfl) | (unfold wgV; rfl) | (unfold clV; rfl), hY10⟩) ⟨Nat.le_of_ble_eq_true rfl, Nat.le_of_ble_eq_true rfl⟩ dX4_weighs_104
  · refine g_look hx hb 2 (off := 56) (tgt := 57) dX4_weighs_1 hk (by decide) rfl rfl (by decide) ?_
    subst hk
    refine lv_aload_n hx hb dX4_weighs_57 rfl (lv_at hl 0 rfl) ?_
    refine lv_bipush (v := zI 30) hx hb dX4_weighs_58 (by decide +kernel) ?_
    refine m_cv (va_runV (As := [.int (zI 30)]) (rest := []) ⟨hx, hb, hml, hown, hts⟩ (metX4_ran hX hA (by omega)) (cwV 1 hts (lw_V q3714 q3716 qs81 q102 q3717) rfl rfl rfl (by decide +kernel) ⟨Nat.le_of_ble_eq_true rfl, Nat.le_of_ble_eq_true rfl⟩) (m_preV hG) rfl rfl hl.1 rfl (lv_room (Nat.le_of_ble_eq_true rfl)) dX4_weighs_60 ⟨Nat.le_of_ble_eq_true rfl, Nat.le_of_ble_eq_true rfl⟩) hG (fun S_14 H locs hp hG => ?_)
    have hX1 := hp
    have hG : mW X mo ad S_14 s H locs := hG
    have hA1 : aOK (aSetT a (aTr a ++ [30])) := hA.t (by rw [List.length_append]; show _ + 1 ≤ 20; omega)
    have hl1 : (aTr (aSetT a (aTr a ++ [30]))).length = (aTr a).length + 1 := List.length_append
    refine lv_aload_n hx hb dX4_weighs_63 rfl (lv_at hl 0 rfl) ?_
    refine lv_iload_n hx hb dX4_weighs_64 rfl (lv_at hl 1 rfl) ?_
    refine lv_iconst (v := zI 0) hx hb dX4_weighs_65 (by decide +kernel) ?_
    refine lv_iload_n hx hb dX4_weighs_66 rfl (lv_at hl 3 rfl) ?_
    refine m_ci (va_runV (As := [.int (zI (y : Int)), .int (zI 0), .int (zI x)]) (rest := []) ⟨hx, hb, hml, hown, hts⟩ (metX4_weighs_h0 (a := (aSetT a (aTr a ++ [30]))) (y := y) (k := 0) (x := x) hX1 hA1 hy9 (by omega) (by omega)) (cwV 3 hts (lw_V q3718 q3720 qs82 q102 q3721) rfl rfl rfl (by decide +kernel) ⟨Nat.le_of_ble_eq_true rfl, Nat.le_of_ble_eq_true rfl⟩) (m_preV hG) rfl rfl hl.1 rfl (lv_room (Nat.le_of_ble_eq_true rfl)) dX4_weighs_67 ⟨Nat.le_of_ble_eq_true rfl, Nat.le_of_ble_eq_true rfl⟩) hG (fun r_16 S_17 H locs hp hG => ?_)
    obtain ⟨rfl, hY15⟩ := hp
    have hG : mW X mo ad S_17 s H locs := hG
    refine lv_iconst (v := zI 3) hx hb dX4_weighs_70 (by decide +kernel) ?_
    refine g_imul hx hb dX4_weighs_71 ?_
    exact m_iret hx hb hr hlocks hG (⟨by first | rfl | (unfold ptV; rfl) | (unfold wgV; rfl) | (unfold clV; rfl), hY15.ap (u := [30]) rfl⟩) ⟨Nat.le_of_ble_eq_true rfl, Nat.le_of_ble_eq_true rfl⟩ dX4_weighs_72
  · refine g_look hx hb 4 (off := 93) (tgt := 94) dX4_weighs_1 hk (by decide) rfl rfl (by decide) ?_
    subst hk
    refine lv_aload_n hx hb dX4_weighs_94 rfl (lv_at hl 0 rfl) ?_
    refine lv_iload_n hx hb dX4_weighs_95 rfl (lv_at hl 1 rfl) ?_
    refine lv_iload_n hx hb dX4_weighs_96 rfl (lv_at hl 2 rfl) ?_
    refine m_ci (va_runS (As := [.int (zI 4)]) (rest := [.int (zI (y : Int)), .ref mo]) ⟨hx, hb, hml, hown, hts⟩ (metX4_above (by omega)) (va_cwS 1 hts (lw_S q3474 q3475 q102 q3476) rfl rfl rfl (by decide +kernel) ⟨Nat.le_of_ble_eq_true rfl, Nat.le_of_ble_eq_true rfl⟩) (m_preS hG) rfl rfl hl.1 rfl (lv_room (Nat.le_of_ble_eq_true rfl)) dX4_weighs_97 ⟨Nat.le_of_ble_eq_true rfl, Nat.le_of_ble_eq_true rfl⟩) hG (fun r_18 S_19 H locs hp hG => ?_)
    obtain ⟨rfl, rfl⟩ := hp
    have hG : mW X mo ad S s H locs := hG
    refine g_topz (y := 0) (by decide) ?_
    refine lv_iload_n hx hb dX4_weighs_100 rfl (lv_at hl 3 rfl) ?_
    refine m_ci (va_runV (As := [.int (zI (y : Int)), .int (zI 0), .int (zI x)]) (rest := []) ⟨hx, hb, hml, hown, hts⟩ (metX4_weighs_h0 (a := a) (y := y) (k := 0) (x := x) hX hA hy9 (by omega) (by omega)) (cwV 3 hts (lw_V q3718 q3720 qs82 q102 q3721) rfl rfl rfl (by decide +kernel) ⟨Nat.le_of_ble_eq_true rfl, Nat.le_of_ble_eq_true rfl⟩) (m_preV hG) rfl rfl hl.1 rfl (lv_room (Nat.le_of_ble_eq_true rfl)) dX4_weighs_101 ⟨Nat.le_of_ble_eq_true rfl, Nat.le_of_ble_eq_true rfl⟩) hG (fun r_21 S_22 H locs hp hG => ?_)
    obtain ⟨rfl, hY20⟩ := hp
    have hG : mW X mo ad S_22 s H locs := hG
    exact m_iret hx hb hr hlocks hG (⟨by first | rfl | (unfold ptV; rfl) | (unfold wgV; rfl) | (unfold clV; rfl), hY20⟩) ⟨Nat.le_of_ble_eq_true rfl, Nat.le_of_ble_eq_true rfl⟩ dX4_weighs_104

set_option maxHeartbeats 4000000 in
theorem metX4_weighs_h2 {l : Launch} {X : gX} {mo : Nat} {ad : Nat → Nat} {S : mS} {a : aS} (hX : mX S a) (hA : aOK a) {y : Nat} {k x : Int} (hy9 : y < wM (aWd a)) (hk9 : k = 0 ∨ k = 1 ∨ k = 2 ∨ k = 3 ∨ k = 4 ∨ k = 5) (hlen : (aTr a).length + 9 ≤ 20) : Met l yX4_weighs (ws_ yX4_weighs cX4_weighs 4 (some FieldType.int)) ({ frames := 7, cells := 0, slots := 0, locals := 159 }) (mP X mo ad S [.ref mo, .int (zI (y : Int)), .int (zI k), .int (zI x)]) (mQi X mo ad (fun u T => u = zI (wgV (y : Int) (rBy (wRk (aWd a) y) : Int) (rKind (wRk (aWd a) y) : Int) k x) ∧ mX T (aSetT a (aTr a ++ wgT (rKind (wRk (aWd a) y) : Int) k)))) 0 0 (mA mo ad) := by
  refine Met.m (by decide) (Nat.le_of_ble_eq_true rfl) ?_
  intro p e s m below meth c ls hx hb hr hts hown hlocks hml hG hl
  have hl : lv_has ls 4 [(0, .ref mo), (1, .int (zI (y : Int))), (2, .int (zI k)), (3, .int (zI x))] := hl
  have hMM := hA.w.m
  have hNN := hA.w.n
  refine lv_iload_n hx hb dX4_weighs_0 rfl (lv_at hl 2 rfl) ?_
  rcases (show k = 0 ∨ k = 1 ∨ k = 2 ∨ k = 3 ∨ k = 4 ∨ k = 5 by omega) with hk | hk | hk | hk | hk | hk
  · refine g_look hx hb 0 (off := 35) (tgt := 36) dX4_weighs_1 hk (by decide) rfl rfl (by decide) ?_
    subst hk
    refine lv_aload_n hx hb dX4_weighs_36 rfl (lv_at hl 0 rfl) ?_
    refine lv_bipush (v := zI 11) hx hb dX4_weighs_37 (by decide +kernel) ?_
    refine m_cv (va_runV (As := [.int (zI 11)]) (rest := []) ⟨hx, hb, hml, hown, hts⟩ (metX4_ran hX hA (by omega)) (cwV 1 hts (lw_V q3714 q3716 qs81 q102 q3717) rfl rfl rfl (by decide +kernel) ⟨Nat.le_of_ble_eq_true rfl, Nat.le_of_ble_eq_true rfl⟩) (m_preV hG) rfl rfl hl.1 rfl (lv_room (Nat.le_of_ble_eq_true rfl)) dX4_weighs_39 ⟨Nat.le_of_ble_eq_true rfl, Nat.le_of_ble_eq_true rfl⟩) hG (fun S_2 H locs hp hG => ?_)
    have hX1 := hp
    have hG : mW X mo ad S_2 s H locs := hG
    have hA1 : aOK (aSetT a (aTr a ++ [11])) := hA.t (by rw [List.length_append]; show _ + 1 ≤ 20; omega)
    have hl1 : (aTr (aSetT a (aTr a ++ [11]))).length = (aTr a).length + 1 := List.length_append
    refine lv_aload_n hx hb dX4_weighs_42 rfl (lv_at hl 0 rfl) ?_
    refine lv_iload_n hx hb dX4_weighs_43 rfl (lv_at hl 1 rfl) ?_
    refine lv_aload_n hx hb dX4_weighs_44 rfl (lv_at hl 0 rfl) ?_
    refine lv_iconst (v := zI 0) hx hb dX4_weighs_45 (by decide +kernel) ?_
    refine lv_iload_n hx hb dX4_weighs_46 rfl (lv_at hl 1 rfl) ?_
    refine m_ci (va_runV (As := [.int (zI 0), .int (zI (y : Int))]) (rest := [.int (zI (y : Int)), .ref mo]) ⟨hx, hb, hml, hown, hts⟩ (metX4_of 0 (m0 := y) (by omega)) (cwV 2 hts (lw_V q3467 q3469 qs47 q102 q3470) rfl rfl rfl (by decide +kernel) ⟨Nat.le_of_ble_eq_true rfl, Nat.le_of_ble_eq_true rfl⟩) (m_preV hG) rfl rfl hl.1 rfl (lv_room (Nat.le_of_ble_eq_true rfl)) dX4_weighs_47 ⟨Nat.le_of_ble_eq_true rfl, Nat.le_of_ble_eq_true rfl⟩) hG (fun r_3 S_4 H locs hp hG => ?_)
    obtain ⟨rfl, rfl⟩ := hp
    have hG : mW X mo ad S_2 s H locs := hG
    refine g_topz (y := (rKind (wRk (aWd a) y) : Int)) ((congrArg (S_2.2.1 6) (by omega : 16 * 0 + y = y)).trans ((show mO S_2 (aWd a) from hX1.o).kd (m := y) (by omega))) ?_
    have hv1 := hA.w.rk (m := y) (by omega)
    refine lv_iload_n hx hb dX4_weighs_50 rfl (lv_at hl 3 rfl) ?_
    refine m_ci (va_runV (As := [.int (zI (y : Int)), .int (zI (rKind (wRk (aWd a) y) : Int)), .int (zI x)]) (rest := []) ⟨hx, hb, hml, hown, hts⟩ (metX4_points_h3 (a := (aSetT a (aTr a ++ [11]))) (y := y) (k := (rKind (wRk (aWd a) y) : Int)) (x := x) hX1 hA1 hy9 (by omega) (by omega)) (cwV 3 hts (lw_V q3710 q3712 qs80 q102 q3713) rfl rfl rfl (by decide +kernel) ⟨Nat.le_of_ble_eq_true rfl, Nat.le_of_ble_eq_true rfl⟩) (m_preV hG) rfl rfl hl.1 rfl (lv_room (Nat.le_of_ble_eq_true rfl)) dX4_weighs_51 ⟨Nat.le_of_ble_eq_true rfl, Nat.le_of_ble_eq_true rfl⟩) hG (fun r_6 S_7 H locs hp hG => ?_)
    obtain ⟨rfl, hY5⟩ := hp
    have hG : mW X mo ad S_7 s H locs := hG
    refine lv_iconst (v := zI 2) hx hb dX4_weighs_54 (by decide +kernel) ?_
    refine g_imul hx hb dX4_weighs_55 ?_
    exact m_iret hx hb hr hlocks hG (⟨by first | rfl | (unfold ptV; rfl) | (unfold wgV; rfl) | (unfold clV; rfl), hY5.ap (u := [11]) rfl⟩) ⟨Nat.le_of_ble_eq_true rfl, Nat.le_of_ble_eq_true rfl⟩ dX4_weighs_56
  · refine g_look hx hb 1 (off := 93) (tgt := 94) dX4_weighs_1 hk (by decide) rfl rfl (by decide) ?_
    subst hk
    refine lv_aload_n hx hb dX4_weighs_94 rfl (lv_at hl 0 rfl) ?_
    refine lv_iload_n hx hb dX4_weighs_95 rfl (lv_at hl 1 rfl) ?_
    refine lv_iload_n hx hb dX4_weighs_96 rfl (lv_at hl 2 rfl) ?_
    refine m_ci (va_runS (As := [.int (zI 1)]) (rest := [.int (zI (y : Int)), .ref mo]) ⟨hx, hb, hml, hown, hts⟩ (metX4_above (by omega)) (va_cwS 1 hts (lw_S q3474 q3475 q102 q3476) rfl rfl rfl (by decide +kernel) ⟨Nat.le_of_ble_eq_true rfl, Nat.le_of_ble_eq_true rfl⟩) (m_preS hG) rfl rfl hl.1 rfl (lv_room (Nat.le_of_ble_eq_true rfl)) dX4_weighs_97 ⟨Nat.le_of_ble_eq_true rfl, Nat.le_of_ble_eq_true rfl⟩) hG (fun r_8 S_9 H locs hp hG => ?_)
    obtain ⟨rfl, rfl⟩ := hp
    have hG : mW X mo ad S s H locs := hG
    refine g_topz (y := 0) (by decide) ?_
    refine lv_iload_n hx hb dX4_weighs_100 rfl (lv_at hl 3 rfl) ?_
    refine m_ci (va_runV (As := [.int (zI (y : Int)), .int (zI 0), .int (zI x)]) (rest := []) ⟨hx, hb, hml, hown, hts⟩ (metX4_weighs_h1 (a := a) (y := y) (k := 0) (x := x) hX hA hy9 (by omega) (by omega)) (cwV 3 hts (lw_V q3718 q3720 qs82 q102 q3721) rfl rfl rfl (by decide +kernel) ⟨Nat.le_of_ble_eq_true rfl, Nat.le_of_ble_eq_true rfl⟩) (m_preV hG) rfl rfl hl.1 rfl (lv_room (Nat.le_of_ble_eq_true rfl)) dX4_weighs_101 ⟨Nat.le_of_ble_eq_true rfl, Nat.le_of_ble_eq_true rfl⟩) hG (fun r_11 S_12 H locs hp hG => ?_)
    obtain ⟨rfl, hY10⟩ := hp
    have hG : mW X mo ad S_12 s H locs := hG
    exact m_iret hx hb hr hlocks hG (⟨by first | rfl | (unfold ptV; rfl) | (unfold wgV; rfl) | (unfold clV; rfl), hY10⟩) ⟨Nat.le_of_ble_eq_true rfl, Nat.le_of_ble_eq_true rfl⟩ dX4_weighs_104
  · refine g_look hx hb 2 (off := 56) (tgt := 57) dX4_weighs_1 hk (by decide) rfl rfl (by decide) ?_
    subst hk
    refine lv_aload_n hx hb dX4_weighs_57 rfl (lv_at hl 0 rfl) ?_
    refine lv_bipush (v := zI 30) hx hb dX4_weighs_58 (by decide +kernel) ?_
    refine m_cv (va_runV (As := [.int (zI 30)]) (rest := []) ⟨hx, hb, hml, hown, hts⟩ (metX4_ran hX hA (by omega)) (cwV 1 hts (lw_V q3714 q3716 qs81 q102 q3717) rfl rfl rfl (by decide +kernel) ⟨Nat.le_of_ble_eq_true rfl, Nat.le_of_ble_eq_true rfl⟩) (m_preV hG) rfl rfl hl.1 rfl (lv_room (Nat.le_of_ble_eq_true rfl)) dX4_weighs_60 ⟨Nat.le_of_ble_eq_true rfl, Nat.le_of_ble_eq_true rfl⟩) hG (fun S_14 H locs hp hG => ?_)
    have hX1 := hp
    have hG : mW X mo ad S_14 s H locs := hG
    have hA1 : aOK (aSetT a (aTr a ++ [30])) := hA.t (by rw [List.length_append]; show _ + 1 ≤ 20; omega)
    have hl1 : (aTr (aSetT a (aTr a ++ [30]))).length = (aTr a).length + 1 := List.length_append
    refine lv_aload_n hx hb dX4_weighs_63 rfl (lv_at hl 0 rfl) ?_
    refine lv_iload_n hx hb dX4_weighs_64 rfl (lv_at hl 1 rfl) ?_
    refine lv_iconst (v := zI 0) hx hb dX4_weighs_65 (by decide +kernel) ?_
    refine lv_iload_n hx hb dX4_weighs_66 rfl (lv_at hl 3 rfl) ?_
    refine m_ci (va_runV (As := [.int (zI (y : Int)), .int (zI 0), .int (zI x)]) (rest := []) ⟨hx, hb, hml, hown, hts⟩ (metX4_weighs_h1 (a := (aSetT a (aTr a ++ [30]))) (y := y) (k := 0) (x := x) hX1 hA1 hy9 (by omega) (by omega)) (cwV 3 hts (lw_V q3718 q3720 qs82 q102 q3721) rfl rfl rfl (by decide +kernel) ⟨Nat.le_of_ble_eq_true rfl, Nat.le_of_ble_eq_true rfl⟩) (m_preV hG) rfl rfl hl.1 rfl (lv_room (Nat.le_of_ble_eq_true rfl)) dX4_weighs_67 ⟨Nat.le_of_ble_eq_true rfl, Nat.le_of_ble_eq_true rfl⟩) hG (fun r_16 S_17 H locs hp hG => ?_)
    obtain ⟨rfl, hY15⟩ := hp
    have hG : mW X mo ad S_17 s H locs := hG
    refine lv_iconst (v := zI 3) hx hb dX4_weighs_70 (by decide +kernel) ?_
    refine g_imul hx hb dX4_weighs_71 ?_
    exact m_iret hx hb hr hlocks hG (⟨by first | rfl | (unfold ptV; rfl) | (unfold wgV; rfl) | (unfold clV; rfl), hY15.ap (u := [30]) rfl⟩) ⟨Nat.le_of_ble_eq_true rfl, Nat.le_of_ble_eq_true rfl⟩ dX4_weighs_72
  · refine g_look hx hb 3 (off := 93) (tgt := 94) dX4_weighs_1 hk (by decide) rfl rfl (by decide) ?_
    subst hk
    refine lv_aload_n hx hb dX4_weighs_94 rfl (lv_at hl 0 rfl) ?_
    refine lv_iload_n hx hb dX4_weighs_95 rfl (lv_at hl 1 rfl) ?_
    refine lv_iload_n hx hb dX4_weighs_96 rfl (lv_at hl 2 rfl) ?_
    refine m_ci (va_runS (As := [.int (zI 3)]) (rest := [.int (zI (y : Int)), .ref mo]) ⟨hx, hb, hml, hown, hts⟩ (metX4_above (by omega)) (va_cwS 1 hts (lw_S q3474 q3475 q102 q3476) rfl rfl rfl (by decide +kernel) ⟨Nat.le_of_ble_eq_true rfl, Nat.le_of_ble_eq_true rfl⟩) (m_preS hG) rfl rfl hl.1 rfl (lv_room (Nat.le_of_ble_eq_true rfl)) dX4_weighs_97 ⟨Nat.le_of_ble_eq_true rfl, Nat.le_of_ble_eq_true rfl⟩) hG (fun r_18 S_19 H locs hp hG => ?_)
    obtain ⟨rfl, rfl⟩ := hp
    have hG : mW X mo ad S s H locs := hG
    refine g_topz (y := 1) (by decide) ?_
    refine lv_iload_n hx hb dX4_weighs_100 rfl (lv_at hl 3 rfl) ?_
    refine m_ci (va_runV (As := [.int (zI (y : Int)), .int (zI 1), .int (zI x)]) (rest := []) ⟨hx, hb, hml, hown, hts⟩ (metX4_weighs_h1 (a := a) (y := y) (k := 1) (x := x) hX hA hy9 (by omega) (by omega)) (cwV 3 hts (lw_V q3718 q3720 qs82 q102 q3721) rfl rfl rfl (by decide +kernel) ⟨Nat.le_of_ble_eq_true rfl, Nat.le_of_ble_eq_true rfl⟩) (m_preV hG) rfl rfl hl.1 rfl (lv_room (Nat.le_of_ble_eq_true rfl)) dX4_weighs_101 ⟨Nat.le_of_ble_eq_true rfl, Nat.le_of_ble_eq_true rfl⟩) hG (fun r_21 S_22 H locs hp hG => ?_)
    obtain ⟨rfl, hY20⟩ := hp
    have hG : mW X mo ad S_22 s H locs := hG
    exact m_iret hx hb hr hlocks hG (⟨by first | rfl | (unfold ptV; rfl) | (unfold wgV; rfl) | (unfold clV; rfl), hY20⟩) ⟨Nat.le_of_ble_eq_true rfl, Nat.le_of_ble_eq_true rfl⟩ dX4_weighs_104
  · refine g_look hx hb 4 (off := 93) (tgt := 94) dX4_weighs_1 hk (by decide) rfl rfl (by decide) ?_
    subst hk
    refine lv_aload_n hx hb dX4_weighs_94 rfl (lv_at hl 0 rfl) ?_
    refine lv_iload_n hx hb dX4_weighs_95 rfl (lv_at hl 1 rfl) ?_
    refine lv_iload_n hx hb dX4_weighs_96 rfl (lv_at hl 2 rfl) ?_
    refine m_ci (va_runS (As := [.int (zI 4)]) (rest := [.int (zI (y : Int)), .ref mo]) ⟨hx, hb, hml, hown, hts⟩ (metX4_above (by omega)) (va_cwS 1 hts (lw_S q3474 q3475 q102 q3476) rfl rfl rfl (by decide +kernel) ⟨Nat.le_of_ble_eq_true rfl, Nat.le_of_ble_eq_true rfl⟩) (m_preS hG) rfl rfl hl.1 rfl (lv_room (Nat.le_of_ble_eq_true rfl)) dX4_weighs_97 ⟨Nat.le_of_ble_eq_true rfl, Nat.le_of_ble_eq_true rfl⟩) hG (fun r_23 S_24 H locs hp hG => ?_)
    obtain ⟨rfl, rfl⟩ := hp
    have hG : mW X mo ad S s H locs := hG
    refine g_topz (y := 0) (by decide) ?_
    refine lv_iload_n hx hb dX4_weighs_100 rfl (lv_at hl 3 rfl) ?_
    refine m_ci (va_runV (As := [.int (zI (y : Int)), .int (zI 0), .int (zI x)]) (rest := []) ⟨hx, hb, hml, hown, hts⟩ (metX4_weighs_h1 (a := a) (y := y) (k := 0) (x := x) hX hA hy9 (by omega) (by omega)) (cwV 3 hts (lw_V q3718 q3720 qs82 q102 q3721) rfl rfl rfl (by decide +kernel) ⟨Nat.le_of_ble_eq_true rfl, Nat.le_of_ble_eq_true rfl⟩) (m_preV hG) rfl rfl hl.1 rfl (lv_room (Nat.le_of_ble_eq_true rfl)) dX4_weighs_101 ⟨Nat.le_of_ble_eq_true rfl, Nat.le_of_ble_eq_true rfl⟩) hG (fun r_26 S_27 H locs hp hG => ?_)
    obtain ⟨rfl, hY25⟩ := hp
    have hG : mW X mo ad S_27 s H locs := hG
    exact m_iret hx hb hr hlocks hG (⟨by first | rfl | (unfold ptV; rfl) | (unfold wgV; rfl) | (unfold clV; rfl), hY25⟩) ⟨Nat.le_of_ble_eq_true rfl, Nat.le_of_ble_eq_true rfl⟩ dX4_weighs_104
  · refine g_look hx hb 5 (off := 93) (tgt := 94) dX4_weighs_1 hk (by decide) rfl rfl (by decide) ?_
    subst hk
    refine lv_aload_n hx hb dX4_weighs_94 rfl (lv_at hl 0 rfl) ?_
    refine lv_iload_n hx hb dX4_weighs_95 rfl (lv_at hl 1 rfl) ?_
    refine lv_iload_n hx hb dX4_weighs_96 rfl (lv_at hl 2 rfl) ?_
    refine m_ci (va_runS (As := [.int (zI 5)]) (rest := [.int (zI (y : Int)), .ref mo]) ⟨hx, hb, hml, hown, hts⟩ (metX4_above (by omega)) (va_cwS 1 hts (lw_S q3474 q3475 q102 q3476) rfl rfl rfl (by decide +kernel) ⟨Nat.le_of_ble_eq_true rfl, Nat.le_of_ble_eq_true rfl⟩) (m_preS hG) rfl rfl hl.1 rfl (lv_room (Nat.le_of_ble_eq_true rfl)) dX4_weighs_97 ⟨Nat.le_of_ble_eq_true rfl, Nat.le_of_ble_eq_true rfl⟩) hG (fun r_28 S_29 H locs hp hG => ?_)
    obtain ⟨rfl, rfl⟩ := hp
    have hG : mW X mo ad S s H locs := hG
    refine g_topz (y := 2) (by decide) ?_
    refine lv_iload_n hx hb dX4_weighs_100 rfl (lv_at hl 3 rfl) ?_
    refine m_ci (va_runV (As := [.int (zI (y : Int)), .int (zI 2), .int (zI x)]) (rest := []) ⟨hx, hb, hml, hown, hts⟩ (metX4_weighs_h1 (a := a) (y := y) (k := 2) (x := x) hX hA hy9 (by omega) (by omega)) (cwV 3 hts (lw_V q3718 q3720 qs82 q102 q3721) rfl rfl rfl (by decide +kernel) ⟨Nat.le_of_ble_eq_true rfl, Nat.le_of_ble_eq_true rfl⟩) (m_preV hG) rfl rfl hl.1 rfl (lv_room (Nat.le_of_ble_eq_true rfl)) dX4_weighs_101 ⟨Nat.le_of_ble_eq_true rfl, Nat.le_of_ble_eq_true rfl⟩) hG (fun r_31 S_32 H locs hp hG => ?_)
    obtain ⟨rfl, hY30⟩ := hp
    have hG : mW X mo ad S_32 s H locs := hG
    exact m_iret hx hb hr hlocks hG (⟨by first | rfl | (unfold ptV; rfl) | (unfold wgV; rfl) | (unfold clV; rfl), hY30⟩) ⟨Nat.le_of_ble_eq_true rfl, Nat.le_of_ble_eq_true rfl⟩ dX4_weighs_104

set_option maxHeartbeats 4000000 in
theorem metX4_weighs_h3 {l : Launch} {X : gX} {mo : Nat} {ad : Nat → Nat} {S : mS} {a : aS} (hX : mX S a) (hA : aOK a) {y : Nat} {k x : Int} (hy9 : y < wM (aWd a)) (hk9 : k = 0 ∨ k = 1 ∨ k = 2 ∨ k = 3 ∨ k = 4 ∨ k = 5 ∨ k = 6) (hlen : (aTr a).length + 10 ≤ 20) : Met l yX4_weighs (ws_ yX4_weighs cX4_weighs 4 (some FieldType.int)) ({ frames := 8, cells := 0, slots := 0, locals := 182 }) (mP X mo ad S [.ref mo, .int (zI (y : Int)), .int (zI k), .int (zI x)]) (mQi X mo ad (fun u T => u = zI (wgV (y : Int) (rBy (wRk (aWd a) y) : Int) (rKind (wRk (aWd a) y) : Int) k x) ∧ mX T (aSetT a (aTr a ++ wgT (rKind (wRk (aWd a) y) : Int) k)))) 0 0 (mA mo ad) := by
  refine Met.m (by decide) (Nat.le_of_ble_eq_true rfl) ?_
  intro p e s m below meth c ls hx hb hr hts hown hlocks hml hG hl
  have hl : lv_has ls 4 [(0, .ref mo), (1, .int (zI (y : Int))), (2, .int (zI k)), (3, .int (zI x))] := hl
  have hMM := hA.w.m
  have hNN := hA.w.n
  refine lv_iload_n hx hb dX4_weighs_0 rfl (lv_at hl 2 rfl) ?_
  rcases (show k = 0 ∨ k = 1 ∨ k = 2 ∨ k = 3 ∨ k = 4 ∨ k = 5 ∨ k = 6 by omega) with hk | hk | hk | hk | hk | hk | hk
  · refine g_look hx hb 0 (off := 35) (tgt := 36) dX4_weighs_1 hk (by decide) rfl rfl (by decide) ?_
    subst hk
    refine lv_aload_n hx hb dX4_weighs_36 rfl (lv_at hl 0 rfl) ?_
    refine lv_bipush (v := zI 11) hx hb dX4_weighs_37 (by decide +kernel) ?_
    refine m_cv (va_runV (As := [.int (zI 11)]) (rest := []) ⟨hx, hb, hml, hown, hts⟩ (metX4_ran hX hA (by omega)) (cwV 1 hts (lw_V q3714 q3716 qs81 q102 q3717) rfl rfl rfl (by decide +kernel) ⟨Nat.le_of_ble_eq_true rfl, Nat.le_of_ble_eq_true rfl⟩) (m_preV hG) rfl rfl hl.1 rfl (lv_room (Nat.le_of_ble_eq_true rfl)) dX4_weighs_39 ⟨Nat.le_of_ble_eq_true rfl, Nat.le_of_ble_eq_true rfl⟩) hG (fun S_2 H locs hp hG => ?_)
    have hX1 := hp
    have hG : mW X mo ad S_2 s H locs := hG
    have hA1 : aOK (aSetT a (aTr a ++ [11])) := hA.t (by rw [List.length_append]; show _ + 1 ≤ 20; omega)
    have hl1 : (aTr (aSetT a (aTr a ++ [11]))).length = (aTr a).length + 1 := List.length_append
    refine lv_aload_n hx hb dX4_weighs_42 rfl (lv_at hl 0 rfl) ?_
    refine lv_iload_n hx hb dX4_weighs_43 rfl (lv_at hl 1 rfl) ?_
    refine lv_aload_n hx hb dX4_weighs_44 rfl (lv_at hl 0 rfl) ?_
    refine lv_iconst (v := zI 0) hx hb dX4_weighs_45 (by decide +kernel) ?_
    refine lv_iload_n hx hb dX4_weighs_46 rfl (lv_at hl 1 rfl) ?_
    refine m_ci (va_runV (As := [.int (zI 0), .int (zI (y : Int))]) (rest := [.int (zI (y : Int)), .ref mo]) ⟨hx, hb, hml, hown, hts⟩ (metX4_of 0 (m0 := y) (by omega)) (cwV 2 hts (lw_V q3467 q3469 qs47 q102 q3470) rfl rfl rfl (by decide +kernel) ⟨Nat.le_of_ble_eq_true rfl, Nat.le_of_ble_eq_true rfl⟩) (m_preV hG) rfl rfl hl.1 rfl (lv_room (Nat.le_of_ble_eq_true rfl)) dX4_weighs_47 ⟨Nat.le_of_ble_eq_true rfl, Nat.le_of_ble_eq_true rfl⟩) hG (fun r_3 S_4 H locs hp hG => ?_)
    obtain ⟨rfl, rfl⟩ := hp
    have hG : mW X mo ad S_2 s H locs := hG
    refine g_topz (y := (rKind (wRk (aWd a) y) : Int)) ((congrArg (S_2.2.1 6) (by omega : 16 * 0 + y = y)).trans ((show mO S_2 (aWd a) from hX1.o).kd (m := y) (by omega))) ?_
    have hv1 := hA.w.rk (m := y) (by omega)
    refine lv_iload_n hx hb dX4_weighs_50 rfl (lv_at hl 3 rfl) ?_
    refine m_ci (va_runV (As := [.int (zI (y : Int)), .int (zI (rKind (wRk (aWd a) y) : Int)), .int (zI x)]) (rest := []) ⟨hx, hb, hml, hown, hts⟩ (metX4_points_h3 (a := (aSetT a (aTr a ++ [11]))) (y := y) (k := (rKind (wRk (aWd a) y) : Int)) (x := x) hX1 hA1 hy9 (by omega) (by omega)) (cwV 3 hts (lw_V q3710 q3712 qs80 q102 q3713) rfl rfl rfl (by decide +kernel) ⟨Nat.le_of_ble_eq_true rfl, Nat.le_of_ble_eq_true rfl⟩) (m_preV hG) rfl rfl hl.1 rfl (lv_room (Nat.le_of_ble_eq_true rfl)) dX4_weighs_51 ⟨Nat.le_of_ble_eq_true rfl, Nat.le_of_ble_eq_true rfl⟩) hG (fun r_6 S_7 H locs hp hG => ?_)
    obtain ⟨rfl, hY5⟩ := hp
    have hG : mW X mo ad S_7 s H locs := hG
    refine lv_iconst (v := zI 2) hx hb dX4_weighs_54 (by decide +kernel) ?_
    refine g_imul hx hb dX4_weighs_55 ?_
    exact m_iret hx hb hr hlocks hG (⟨by first | rfl | (unfold ptV; rfl) | (unfold wgV; rfl) | (unfold clV; rfl), hY5.ap (u := [11]) rfl⟩) ⟨Nat.le_of_ble_eq_true rfl, Nat.le_of_ble_eq_true rfl⟩ dX4_weighs_56
  · refine g_look hx hb 1 (off := 93) (tgt := 94) dX4_weighs_1 hk (by decide) rfl rfl (by decide) ?_
    subst hk
    refine lv_aload_n hx hb dX4_weighs_94 rfl (lv_at hl 0 rfl) ?_
    refine lv_iload_n hx hb dX4_weighs_95 rfl (lv_at hl 1 rfl) ?_
    refine lv_iload_n hx hb dX4_weighs_96 rfl (lv_at hl 2 rfl) ?_
    refine m_ci (va_runS (As := [.int (zI 1)]) (rest := [.int (zI (y : Int)), .ref mo]) ⟨hx, hb, hml, hown, hts⟩ (metX4_above (by omega)) (va_cwS 1 hts (lw_S q3474 q3475 q102 q3476) rfl rfl rfl (by decide +kernel) ⟨Nat.le_of_ble_eq_true rfl, Nat.le_of_ble_eq_true rfl⟩) (m_preS hG) rfl rfl hl.1 rfl (lv_room (Nat.le_of_ble_eq_true rfl)) dX4_weighs_97 ⟨Nat.le_of_ble_eq_true rfl, Nat.le_of_ble_eq_true rfl⟩) hG (fun r_8 S_9 H locs hp hG => ?_)
    obtain ⟨rfl, rfl⟩ := hp
    have hG : mW X mo ad S s H locs := hG
    refine g_topz (y := 0) (by decide) ?_
    refine lv_iload_n hx hb dX4_weighs_100 rfl (lv_at hl 3 rfl) ?_
    refine m_ci (va_runV (As := [.int (zI (y : Int)), .int (zI 0), .int (zI x)]) (rest := []) ⟨hx, hb, hml, hown, hts⟩ (metX4_weighs_h2 (a := a) (y := y) (k := 0) (x := x) hX hA hy9 (by omega) (by omega)) (cwV 3 hts (lw_V q3718 q3720 qs82 q102 q3721) rfl rfl rfl (by decide +kernel) ⟨Nat.le_of_ble_eq_true rfl, Nat.le_of_ble_eq_true rfl⟩) (m_preV hG) rfl rfl hl.1 rfl (lv_room (Nat.le_of_ble_eq_true rfl)) dX4_weighs_101 ⟨Nat.le_of_ble_eq_true rfl, Nat.le_of_ble_eq_true rfl⟩) hG (fun r_11 S_12 H locs hp hG => ?_)
    obtain ⟨rfl, hY10⟩ := hp
    have hG : mW X mo ad S_12 s H locs := hG
    exact m_iret hx hb hr hlocks hG (⟨by first | rfl | (unfold ptV; rfl) | (unfold wgV; rfl) | (unfold clV; rfl), hY10⟩) ⟨Nat.le_of_ble_eq_true rfl, Nat.le_of_ble_eq_true rfl⟩ dX4_weighs_104
  · refine g_look hx hb 2 (off := 56) (tgt := 57) dX4_weighs_1 hk (by decide) rfl rfl (by decide) ?_
    subst hk
    refine lv_aload_n hx hb dX4_weighs_57 rfl (lv_at hl 0 rfl) ?_
    refine lv_bipush (v := zI 30) hx hb dX4_weighs_58 (by decide +kernel) ?_
    refine m_cv (va_runV (As := [.int (zI 30)]) (rest := []) ⟨hx, hb, hml, hown, hts⟩ (metX4_ran hX hA (by omega)) (cwV 1 hts (lw_V q3714 q3716 qs81 q102 q3717) rfl rfl rfl (by decide +kernel) ⟨Nat.le_of_ble_eq_true rfl, Nat.le_of_ble_eq_true rfl⟩) (m_preV hG) rfl rfl hl.1 rfl (lv_room (Nat.le_of_ble_eq_true rfl)) dX4_weighs_60 ⟨Nat.le_of_ble_eq_true rfl, Nat.le_of_ble_eq_true rfl⟩) hG (fun S_14 H locs hp hG => ?_)
    have hX1 := hp
    have hG : mW X mo ad S_14 s H locs := hG
    have hA1 : aOK (aSetT a (aTr a ++ [30])) := hA.t (by rw [List.length_append]; show _ + 1 ≤ 20; omega)
    have hl1 : (aTr (aSetT a (aTr a ++ [30]))).length = (aTr a).length + 1 := List.length_append
    refine lv_aload_n hx hb dX4_weighs_63 rfl (lv_at hl 0 rfl) ?_
    refine lv_iload_n hx hb dX4_weighs_64 rfl (lv_at hl 1 rfl) ?_
    refine lv_iconst (v := zI 0) hx hb dX4_weighs_65 (by decide +kernel) ?_
    refine lv_iload_n hx hb dX4_weighs_66 rfl (lv_at hl 3 rfl) ?_
    refine m_ci (va_runV (As := [.int (zI (y : Int)), .int (zI 0), .int (zI x)]) (rest := []) ⟨hx, hb, hml, hown, hts⟩ (metX4_weighs_h2 (a := (aSetT a (aTr a ++ [30]))) (y := y) (k := 0) (x := x) hX1 hA1 hy9 (by omega) (by omega)) (cwV 3 hts (lw_V q3718 q3720 qs82 q102 q3721) rfl rfl rfl (by decide +kernel) ⟨Nat.le_of_ble_eq_true rfl, Nat.le_of_ble_eq_true rfl⟩) (m_preV hG) rfl rfl hl.1 rfl (lv_room (Nat.le_of_ble_eq_true rfl)) dX4_weighs_67 ⟨Nat.le_of_ble_eq_true rfl, Nat.le_of_ble_eq_true rfl⟩) hG (fun r_16 S_17 H locs hp hG => ?_)
    obtain ⟨rfl, hY15⟩ := hp
    have hG : mW X mo ad S_17 s H locs := hG
    refine lv_iconst (v := zI 3) hx hb dX4_weighs_70 (by decide +kernel) ?_
    refine g_imul hx hb dX4_weighs_71 ?_
    exact m_iret hx hb hr hlocks hG (⟨by first | rfl | (unfold ptV; rfl) | (unfold wgV; rfl) | (unfold clV; rfl), hY15.ap (u := [30]) rfl⟩) ⟨Nat.le_of_ble_eq_true rfl, Nat.le_of_ble_eq_true rfl⟩ dX4_weighs_72
  · refine g_look hx hb 3 (off := 93) (tgt := 94) dX4_weighs_1 hk (by decide) rfl rfl (by decide) ?_
    subst hk
    refine lv_aload_n hx hb dX4_weighs_94 rfl (lv_at hl 0 rfl) ?_
    refine lv_iload_n hx hb dX4_weighs_95 rfl (lv_at hl 1 rfl) ?_
    refine lv_iload_n hx hb dX4_weighs_96 rfl (lv_at hl 2 rfl) ?_
    refine m_ci (va_runS (As := [.int (zI 3)]) (rest := [.int (zI (y : Int)), .ref mo]) ⟨hx, hb, hml, hown, hts⟩ (metX4_above (by omega)) (va_cwS 1 hts (lw_S q3474 q3475 q102 q3476) rfl rfl rfl (by decide +kernel) ⟨Nat.le_of_ble_eq_true rfl, Nat.le_of_ble_eq_true rfl⟩) (m_preS hG) rfl rfl hl.1 rfl (lv_room (Nat.le_of_ble_eq_true rfl)) dX4_weighs_97 ⟨Nat.le_of_ble_eq_true rfl, Nat.le_of_ble_eq_true rfl⟩) hG (fun r_18 S_19 H locs hp hG => ?_)
    obtain ⟨rfl, rfl⟩ := hp
    have hG : mW X mo ad S s H locs := hG
    refine g_topz (y := 1) (by decide) ?_
    refine lv_iload_n hx hb dX4_weighs_100 rfl (lv_at hl 3 rfl) ?_
    refine m_ci (va_runV (As := [.int (zI (y : Int)), .int (zI 1), .int (zI x)]) (rest := []) ⟨hx, hb, hml, hown, hts⟩ (metX4_weighs_h2 (a := a) (y := y) (k := 1) (x := x) hX hA hy9 (by omega) (by omega)) (cwV 3 hts (lw_V q3718 q3720 qs82 q102 q3721) rfl rfl rfl (by decide +kernel) ⟨Nat.le_of_ble_eq_true rfl, Nat.le_of_ble_eq_true rfl⟩) (m_preV hG) rfl rfl hl.1 rfl (lv_room (Nat.le_of_ble_eq_true rfl)) dX4_weighs_101 ⟨Nat.le_of_ble_eq_true rfl, Nat.le_of_ble_eq_true rfl⟩) hG (fun r_21 S_22 H locs hp hG => ?_)
    obtain ⟨rfl, hY20⟩ := hp
    have hG : mW X mo ad S_22 s H locs := hG
    exact m_iret hx hb hr hlocks hG (⟨by first | rfl | (unfold ptV; rfl) | (unfold wgV; rfl) | (unfold clV; rfl), hY20⟩) ⟨Nat.le_of_ble_eq_true rfl, Nat.le_of_ble_eq_true rfl⟩ dX4_weighs_104
  · refine g_look hx hb 4 (off := 93) (tgt := 94) dX4_weighs_1 hk (by decide) rfl rfl (by decide) ?_
    subst hk
    refine lv_aload_n hx hb dX4_weighs_94 rfl (lv_at hl 0 rfl) ?_
    refine lv_iload_n hx hb dX4_weighs_95 rfl (lv_at hl 1 rfl) ?_
    refine lv_iload_n hx hb dX4_weighs_96 rfl (lv_at hl 2 rfl) ?_
    refine m_ci (va_runS (As := [.int (zI 4)]) (rest := [.int (zI (y : Int)), .ref mo]) ⟨hx, hb, hml, hown, hts⟩ (metX4_above (by omega)) (va_cwS 1 hts (lw_S q3474 q3475 q102 q3476) rfl rfl rfl (by decide +kernel) ⟨Nat.le_of_ble_eq_true rfl, Nat.le_of_ble_eq_true rfl⟩) (m_preS hG) rfl rfl hl.1 rfl (lv_room (Nat.le_of_ble_eq_true rfl)) dX4_weighs_97 ⟨Nat.le_of_ble_eq_true rfl, Nat.le_of_ble_eq_true rfl⟩) hG (fun r_23 S_24 H locs hp hG => ?_)
    obtain ⟨rfl, rfl⟩ := hp
    have hG : mW X mo ad S s H locs := hG
    refine g_topz (y := 0) (by decide) ?_
    refine lv_iload_n hx hb dX4_weighs_100 rfl (lv_at hl 3 rfl) ?_
    refine m_ci (va_runV (As := [.int (zI (y : Int)), .int (zI 0), .int (zI x)]) (rest := []) ⟨hx, hb, hml, hown, hts⟩ (metX4_weighs_h2 (a := a) (y := y) (k := 0) (x := x) hX hA hy9 (by omega) (by omega)) (cwV 3 hts (lw_V q3718 q3720 qs82 q102 q3721) rfl rfl rfl (by decide +kernel) ⟨Nat.le_of_ble_eq_true rfl, Nat.le_of_ble_eq_true rfl⟩) (m_preV hG) rfl rfl hl.1 rfl (lv_room (Nat.le_of_ble_eq_true rfl)) dX4_weighs_101 ⟨Nat.le_of_ble_eq_true rfl, Nat.le_of_ble_eq_true rfl⟩) hG (fun r_26 S_27 H locs hp hG => ?_)
    obtain ⟨rfl, hY25⟩ := hp
    have hG : mW X mo ad S_27 s H locs := hG
    exact m_iret hx hb hr hlocks hG (⟨by first | rfl | (unfold ptV; rfl) | (unfold wgV; rfl) | (unfold clV; rfl), hY25⟩) ⟨Nat.le_of_ble_eq_true rfl, Nat.le_of_ble_eq_true rfl⟩ dX4_weighs_104
  · refine g_look hx hb 5 (off := 93) (tgt := 94) dX4_weighs_1 hk (by decide) rfl rfl (by decide) ?_
    subst hk
    refine lv_aload_n hx hb dX4_weighs_94 rfl (lv_at hl 0 rfl) ?_
    refine lv_iload_n hx hb dX4_weighs_95 rfl (lv_at hl 1 rfl) ?_
    refine lv_iload_n hx hb dX4_weighs_96 rfl (lv_at hl 2 rfl) ?_
    refine m_ci (va_runS (As := [.int (zI 5)]) (rest := [.int (zI (y : Int)), .ref mo]) ⟨hx, hb, hml, hown, hts⟩ (metX4_above (by omega)) (va_cwS 1 hts (lw_S q3474 q3475 q102 q3476) rfl rfl rfl (by decide +kernel) ⟨Nat.le_of_ble_eq_true rfl, Nat.le_of_ble_eq_true rfl⟩) (m_preS hG) rfl rfl hl.1 rfl (lv_room (Nat.le_of_ble_eq_true rfl)) dX4_weighs_97 ⟨Nat.le_of_ble_eq_true rfl, Nat.le_of_ble_eq_true rfl⟩) hG (fun r_28 S_29 H locs hp hG => ?_)
    obtain ⟨rfl, rfl⟩ := hp
    have hG : mW X mo ad S s H locs := hG
    refine g_topz (y := 2) (by decide) ?_
    refine lv_iload_n hx hb dX4_weighs_100 rfl (lv_at hl 3 rfl) ?_
    refine m_ci (va_runV (As := [.int (zI (y : Int)), .int (zI 2), .int (zI x)]) (rest := []) ⟨hx, hb, hml, hown, hts⟩ (metX4_weighs_h2 (a := a) (y := y) (k := 2) (x := x) hX hA hy9 (by omega) (by omega)) (cwV 3 hts (lw_V q3718 q3720 qs82 q102 q3721) rfl rfl rfl (by decide +kernel) ⟨Nat.le_of_ble_eq_true rfl, Nat.le_of_ble_eq_true rfl⟩) (m_preV hG) rfl rfl hl.1 rfl (lv_room (Nat.le_of_ble_eq_true rfl)) dX4_weighs_101 ⟨Nat.le_of_ble_eq_true rfl, Nat.le_of_ble_eq_true rfl⟩) hG (fun r_31 S_32 H locs hp hG => ?_)
    obtain ⟨rfl, hY30⟩ := hp
    have hG : mW X mo ad S_32 s H locs := hG
    exact m_iret hx hb hr hlocks hG (⟨by first | rfl | (unfold ptV; rfl) | (unfold wgV; rfl) | (unfold clV; rfl), hY30⟩) ⟨Nat.le_of_ble_eq_true rfl, Nat.le_of_ble_eq_true rfl⟩ dX4_weighs_104
  · refine g_look hx hb 6 (off := 72) (tgt := 73) dX4_weighs_1 hk (by decide) rfl rfl (by decide) ?_
    subst hk
    refine lv_aload_n hx hb dX4_weighs_73 rfl (lv_at hl 0 rfl) ?_
    refine lv_bipush (v := zI 71) hx hb dX4_weighs_74 (by decide +kernel) ?_
    refine m_cv (va_runV (As := [.int (zI 71)]) (rest := []) ⟨hx, hb, hml, hown, hts⟩ (metX4_ran hX hA (by omega)) (cwV 1 hts (lw_V q3714 q3716 qs81 q102 q3717) rfl rfl rfl (by decide +kernel) ⟨Nat.le_of_ble_eq_true rfl, Nat.le_of_ble_eq_true rfl⟩) (m_preV hG) rfl rfl hl.1 rfl (lv_room (Nat.le_of_ble_eq_true rfl)) dX4_weighs_76 ⟨Nat.le_of_ble_eq_true rfl, Nat.le_of_ble_eq_true rfl⟩) hG (fun S_34 H locs hp hG => ?_)
    have hX1 := hp
    have hG : mW X mo ad S_34 s H locs := hG
    have hA1 : aOK (aSetT a (aTr a ++ [71])) := hA.t (by rw [List.length_append]; show _ + 1 ≤ 20; omega)
    have hl1 : (aTr (aSetT a (aTr a ++ [71]))).length = (aTr a).length + 1 := List.length_append
    refine lv_aload_n hx hb dX4_weighs_79 rfl (lv_at hl 0 rfl) ?_
    refine lv_iload_n hx hb dX4_weighs_80 rfl (lv_at hl 1 rfl) ?_
    refine lv_iconst (v := zI 3) hx hb dX4_weighs_81 (by decide +kernel) ?_
    refine lv_iload_n hx hb dX4_weighs_82 rfl (lv_at hl 3 rfl) ?_
    refine lv_aload_n hx hb dX4_weighs_83 rfl (lv_at hl 0 rfl) ?_
    refine lv_iconst (v := zI 1) hx hb dX4_weighs_84 (by decide +kernel) ?_
    refine lv_iload_n hx hb dX4_weighs_85 rfl (lv_at hl 1 rfl) ?_
    refine m_ci (va_runV (As := [.int (zI 1), .int (zI (y : Int))]) (rest := [.int (zI x), .int (zI 3), .int (zI (y : Int)), .ref mo]) ⟨hx, hb, hml, hown, hts⟩ (metX4_of 1 (m0 := y) (by omega)) (cwV 2 hts (lw_V q3467 q3469 qs47 q102 q3470) rfl rfl rfl (by decide +kernel) ⟨Nat.le_of_ble_eq_true rfl, Nat.le_of_ble_eq_true rfl⟩) (m_preV hG) rfl rfl hl.1 rfl (lv_room (Nat.le_of_ble_eq_true rfl)) dX4_weighs_86 ⟨Nat.le_of_ble_eq_true rfl, Nat.le_of_ble_eq_true rfl⟩) hG (fun r_35 S_36 H locs hp hG => ?_)
    obtain ⟨rfl, rfl⟩ := hp
    have hG : mW X mo ad S_34 s H locs := hG
    refine g_topz (y := (rBy (wRk (aWd a) y) : Int)) ((show mO S_34 (aWd a) from hX1.o).by (m := y) (by omega)) ?_
    have hv2 := hA.w.rk (m := y) (by omega)
    refine g_isub hx hb dX4_weighs_89 ?_
    refine m_ci (va_runV (As := [.int (zI (y : Int)), .int (zI 3), .int (zI (x - (rBy (wRk (aWd a) y) : Int)))]) (rest := []) ⟨hx, hb, hml, hown, hts⟩ (metX4_weighs_h2 (a := (aSetT a (aTr a ++ [71]))) (y := y) (k := 3) (x := (x - (rBy (wRk (aWd a) y) : Int))) hX1 hA1 hy9 (by omega) (by omega)) (cwV 3 hts (lw_V q3718 q3720 qs82 q102 q3721) rfl rfl rfl (by decide +kernel) ⟨Nat.le_of_ble_eq_true rfl, Nat.le_of_ble_eq_true rfl⟩) (m_preV hG) rfl rfl hl.1 rfl (lv_room (Nat.le_of_ble_eq_true rfl)) dX4_weighs_90 ⟨Nat.le_of_ble_eq_true rfl, Nat.le_of_ble_eq_true rfl⟩) hG (fun r_38 S_39 H locs hp hG => ?_)
    obtain ⟨rfl, hY37⟩ := hp
    have hG : mW X mo ad S_39 s H locs := hG
    exact m_iret hx hb hr hlocks hG (⟨by first | rfl | (unfold ptV; rfl) | (unfold wgV; rfl) | (unfold clV; rfl), hY37.ap (u := [71]) rfl⟩) ⟨Nat.le_of_ble_eq_true rfl, Nat.le_of_ble_eq_true rfl⟩ dX4_weighs_93

set_option maxHeartbeats 4000000 in
theorem metX4_clings_h0 {l : Launch} {X : gX} {mo : Nat} {ad : Nat → Nat} {S : mS} {a : aS} (hX : mX S a) (hA : aOK a) {y : Nat} {k x : Int} (hy9 : y < wM (aWd a)) (hk9 : k = 0) (hlen : (aTr a).length + 15 ≤ 20) : Met l yX4_clings (ws_ yX4_clings cX4_clings 5 (some FieldType.int)) ({ frames := 9, cells := 0, slots := 0, locals := 205 }) (mP X mo ad S [.ref mo, .int (zI (y : Int)), .int (zI k), .int (zI x)]) (mQi X mo ad (fun u T => u = clV (y : Int) (rBy (wRk (aWd a) y) : Int) (rKind (wRk (aWd a) y) : Int) k x ∧ mX T (aSetT a (aTr a ++ clT (rKind (wRk (aWd a) y) : Int) k)))) 0 0 (mA mo ad) := by
  refine Met.m (by decide) (Nat.le_of_ble_eq_true rfl) ?_
  intro p e s m below meth c ls hx hb hr hts hown hlocks hml hG hl
  have hl : lv_has ls 5 [(0, .ref mo), (1, .int (zI (y : Int))), (2, .int (zI k)), (3, .int (zI x))] := hl
  have hMM := hA.w.m
  have hNN := hA.w.n
  refine lv_iload_n hx hb dX4_clings_0 rfl (lv_at hl 2 rfl) ?_
  rcases (show k = 0 by omega) with hk
  · refine g_look hx hb 0 (off := 35) (tgt := 36) dX4_clings_1 hk (by decide) rfl rfl (by decide) ?_
    subst hk
    refine lv_aload_n hx hb dX4_clings_36 rfl (lv_at hl 0 rfl) ?_
    refine lv_bipush (v := zI 12) hx hb dX4_clings_37 (by decide +kernel) ?_
    refine m_cv (va_runV (As := [.int (zI 12)]) (rest := []) ⟨hx, hb, hml, hown, hts⟩ (metX4_ran hX hA (by omega)) (cwV 1 hts (lw_V q3714 q3716 qs81 q102 q3717) rfl rfl rfl (by decide +kernel) ⟨Nat.le_of_ble_eq_true rfl, Nat.le_of_ble_eq_true rfl⟩) (m_preV hG) rfl rfl hl.1 rfl (lv_room (Nat.le_of_ble_eq_true rfl)) dX4_clings_39 ⟨Nat.le_of_ble_eq_true rfl, Nat.le_of_ble_eq_true rfl⟩) hG (fun S_2 H locs hp hG => ?_)
    have hX1 := hp
    have hG : mW X mo ad S_2 s H locs := hG
    have hA1 : aOK (aSetT a (aTr a ++ [12])) := hA.t (by rw [List.length_append]; show _ + 1 ≤ 20; omega)
    have hl1 : (aTr (aSetT a (aTr a ++ [12]))).length = (aTr a).length + 1 := List.length_append
    refine lv_aload_n hx hb dX4_clings_42 rfl (lv_at hl 0 rfl) ?_
    refine lv_iload_n hx hb dX4_clings_43 rfl (lv_at hl 1 rfl) ?_
    refine lv_aload_n hx hb dX4_clings_44 rfl (lv_at hl 0 rfl) ?_
    refine lv_iconst (v := zI 0) hx hb dX4_clings_45 (by decide +kernel) ?_
    refine lv_iload_n hx hb dX4_clings_46 rfl (lv_at hl 1 rfl) ?_
    refine m_ci (va_runV (As := [.int (zI 0), .int (zI (y : Int))]) (rest := [.int (zI (y : Int)), .ref mo]) ⟨hx, hb, hml, hown, hts⟩ (metX4_of 0 (m0 := y) (by omega)) (cwV 2 hts (lw_V q3467 q3469 qs47 q102 q3470) rfl rfl rfl (by decide +kernel) ⟨Nat.le_of_ble_eq_true rfl, Nat.le_of_ble_eq_true rfl⟩) (m_preV hG) rfl rfl hl.1 rfl (lv_room (Nat.le_of_ble_eq_true rfl)) dX4_clings_47 ⟨Nat.le_of_ble_eq_true rfl, Nat.le_of_ble_eq_true rfl⟩) hG (fun r_3 S_4 H locs hp hG => ?_)
    obtain ⟨rfl, rfl⟩ := hp
    have hG : mW X mo ad S_2 s H locs := hG
    refine g_topz (y := (rKind (wRk (aWd a) y) : Int)) ((congrArg (S_2.2.1 6) (by omega : 16 * 0 + y = y)).trans ((show mO S_2 (aWd a) from hX1.o).kd (m := y) (by omega))) ?_
    have hv1 := hA.w.rk (m := y) (by omega)
    refine lv_iload_n hx hb dX4_clings_50 rfl (lv_at hl 3 rfl) ?_
    refine m_ci (va_runV (As := [.int (zI (y : Int)), .int (zI (rKind (wRk (aWd a) y) : Int)), .int (zI x)]) (rest := []) ⟨hx, hb, hml, hown, hts⟩ (metX4_weighs_h3 (a := (aSetT a (aTr a ++ [12]))) (y := y) (k := (rKind (wRk (aWd a) y) : Int)) (x := x) hX1 hA1 hy9 (by omega) (by omega)) (cwV 3 hts (lw_V q3718 q3720 qs82 q102 q3721) rfl rfl rfl (by decide +kernel) ⟨Nat.le_of_ble_eq_true rfl, Nat.le_of_ble_eq_true rfl⟩) (m_preV hG) rfl rfl hl.1 rfl (lv_room (Nat.le_of_ble_eq_true rfl)) dX4_clings_51 ⟨Nat.le_of_ble_eq_true rfl, Nat.le_of_ble_eq_true rfl⟩) hG (fun r_6 S_7 H locs hp hG => ?_)
    obtain ⟨rfl, hY5⟩ := hp
    have hG : mW X mo ad S_7 s H locs := hG
    have hwl := wgT_l (rKind (wRk (aWd a) y) : Int) (rKind (wRk (aWd a) y) : Int)
    have hX2 : mX S_7 (aSetT a (aTr a ++ [12] ++ wgT (rKind (wRk (aWd a) y) : Int) (rKind (wRk (aWd a) y) : Int))) := hY5
    have hlA : (aTr (aSetT a (aTr a ++ [12] ++ wgT (rKind (wRk (aWd a) y) : Int) (rKind (wRk (aWd a) y) : Int)))).length = (aTr a).length + 1 + (wgT (rKind (wRk (aWd a) y) : Int) (rKind (wRk (aWd a) y) : Int)).length := by show (aTr a ++ [12] ++ wgT (rKind (wRk (aWd a) y) : Int) (rKind (wRk (aWd a) y) : Int)).length = _; rw [List.length_append, List.length_append]; rfl
    have hA2 : aOK (aSetT a (aTr a ++ [12] ++ wgT (rKind (wRk (aWd a) y) : Int) (rKind (wRk (aWd a) y) : Int))) := hA.t (by show (aTr (aSetT a (aTr a ++ [12] ++ wgT (rKind (wRk (aWd a) y) : Int) (rKind (wRk (aWd a) y) : Int)))).length ≤ 20; omega)
    refine lv_istore (lv' := [(4, .int (zI (wgV (y : Int) (rBy (wRk (aWd a) y) : Int) (rKind (wRk (aWd a) y) : Int) (rKind (wRk (aWd a) y) : Int) x))), (0, .ref mo), (1, .int (zI (y : Int))), (2, .int (zI 0)), (3, .int (zI x))]) hx hb dX4_clings_54 hl (by decide) rfl (fun ls hl => ?_)
    refine lv_iload hx hb dX4_clings_56 (lv_at hl 0 rfl) ?_
    refine lv_aload_n hx hb dX4_clings_58 rfl (lv_at hl 1 rfl) ?_
    refine lv_iload_n hx hb dX4_clings_59 rfl (lv_at hl 2 rfl) ?_
    refine lv_aload_n hx hb dX4_clings_60 rfl (lv_at hl 1 rfl) ?_
    refine lv_iconst (v := zI 0) hx hb dX4_clings_61 (by decide +kernel) ?_
    refine lv_iload_n hx hb dX4_clings_62 rfl (lv_at hl 2 rfl) ?_
    refine m_ci (va_runV (As := [.int (zI 0), .int (zI (y : Int))]) (rest := [.int (zI (y : Int)), .ref mo, .int (zI (wgV (y : Int) (rBy (wRk (aWd a) y) : Int) (rKind (wRk (aWd a) y) : Int) (rKind (wRk (aWd a) y) : Int) x))]) ⟨hx, hb, hml, hown, hts⟩ (metX4_of 0 (m0 := y) (by omega)) (cwV 2 hts (lw_V q3467 q3469 qs47 q102 q3470) rfl rfl rfl (by decide +kernel) ⟨Nat.le_of_ble_eq_true rfl, Nat.le_of_ble_eq_true rfl⟩) (m_preV hG) rfl rfl hl.1 rfl (lv_room (Nat.le_of_ble_eq_true rfl)) dX4_clings_63 ⟨Nat.le_of_ble_eq_true rfl, Nat.le_of_ble_eq_true rfl⟩) hG (fun r_8 S_9 H locs hp hG => ?_)
    obtain ⟨rfl, rfl⟩ := hp
    have hG : mW X mo ad S_7 s H locs := hG
    refine g_topz (y := (rKind (wRk (aWd a) y) : Int)) ((congrArg (S_7.2.1 6) (by omega : 16 * 0 + y = y)).trans ((show mO S_7 (aWd a) from hY5.o).kd (m := y) (by omega))) ?_
    have hv2 := hA.w.rk (m := y) (by omega)
    refine lv_iload_n hx hb dX4_clings_66 rfl (lv_at hl 4 rfl) ?_
    refine lv_aload_n hx hb dX4_clings_67 rfl (lv_at hl 1 rfl) ?_
    refine lv_iconst (v := zI 1) hx hb dX4_clings_68 (by decide +kernel) ?_
    refine lv_iload_n hx hb dX4_clings_69 rfl (lv_at hl 2 rfl) ?_
    refine m_ci (va_runV (As := [.int (zI 1), .int (zI (y : Int))]) (rest := [.int (zI x), .int (zI (rKind (wRk (aWd a) y) : Int)), .int (zI (y : Int)), .ref mo, .int (zI (wgV (y : Int) (rBy (wRk (aWd a) y) : Int) (rKind (wRk (aWd a) y) : Int) (rKind (wRk (aWd a) y) : Int) x))]) ⟨hx, hb, hml, hown, hts⟩ (metX4_of 1 (m0 := y) (by omega)) (cwV 2 hts (lw_V q3467 q3469 qs47 q102 q3470) rfl rfl rfl (by decide +kernel) ⟨Nat.le_of_ble_eq_true rfl, Nat.le_of_ble_eq_true rfl⟩) (m_preV hG) rfl rfl hl.1 rfl (lv_room (Nat.le_of_ble_eq_true rfl)) dX4_clings_70 ⟨Nat.le_of_ble_eq_true rfl, Nat.le_of_ble_eq_true rfl⟩) hG (fun r_10 S_11 H locs hp hG => ?_)
    obtain ⟨rfl, rfl⟩ := hp
    have hG : mW X mo ad S_7 s H locs := hG
    refine g_topz (y := (rBy (wRk (aWd a) y) : Int)) ((show mO S_7 (aWd a) from hY5.o).by (m := y) (by omega)) ?_
    have hv3 := hA.w.rk (m := y) (by omega)
    refine g_isub hx hb dX4_clings_73 ?_
    refine m_ci (va_runV (As := [.int (zI (y : Int)), .int (zI (rKind (wRk (aWd a) y) : Int)), .int (zI (x - (rBy (wRk (aWd a) y) : Int)))]) (rest := [.int (zI (wgV (y : Int) (rBy (wRk (aWd a) y) : Int) (rKind (wRk (aWd a) y) : Int) (rKind (wRk (aWd a) y) : Int) x))]) ⟨hx, hb, hml, hown, hts⟩ (metX4_points_h3 (a := (aSetT a (aTr a ++ [12] ++ wgT (rKind (wRk (aWd a) y) : Int) (rKind (wRk (aWd a) y) : Int)))) (y := y) (k := (rKind (wRk (aWd a) y) : Int)) (x := (x - (rBy (wRk (aWd a) y) : Int))) hX2 hA2 hy9 (by omega) (by omega)) (cwV 3 hts (lw_V q3710 q3712 qs80 q102 q3713) rfl rfl rfl (by decide +kernel) ⟨Nat.le_of_ble_eq_true rfl, Nat.le_of_ble_eq_true rfl⟩) (m_preV hG) rfl rfl hl.1 rfl (lv_room (Nat.le_of_ble_eq_true rfl)) dX4_clings_74 ⟨Nat.le_of_ble_eq_true rfl, Nat.le_of_ble_eq_true rfl⟩) hG (fun r_13 S_14 H locs hp hG => ?_)
    obtain ⟨rfl, hY12⟩ := hp
    have hG : mW X mo ad S_14 s H locs := hG
    refine lv_ixor hx hb dX4_clings_77 ?_
    exact m_iret hx hb hr hlocks hG (⟨by unfold clV; rfl, mX_cl hY12⟩) ⟨Nat.le_of_ble_eq_true rfl, Nat.le_of_ble_eq_true rfl⟩ dX4_clings_78

set_option maxHeartbeats 4000000 in
theorem metX4_clings_h1 {l : Launch} {X : gX} {mo : Nat} {ad : Nat → Nat} {S : mS} {a : aS} (hX : mX S a) (hA : aOK a) {y : Nat} {k x : Int} (hy9 : y < wM (aWd a)) (hk9 : k = 0 ∨ k = 1 ∨ k = 2 ∨ k = 4) (hlen : (aTr a).length + 16 ≤ 20) : Met l yX4_clings (ws_ yX4_clings cX4_clings 5 (some FieldType.int)) ({ frames := 10, cells := 0, slots := 0, locals := 229 }) (mP X mo ad S [.ref mo, .int (zI (y : Int)), .int (zI k), .int (zI x)]) (mQi X mo ad (fun u T => u = clV (y : Int) (rBy (wRk (aWd a) y) : Int) (rKind (wRk (aWd a) y) : Int) k x ∧ mX T (aSetT a (aTr a ++ clT (rKind (wRk (aWd a) y) : Int) k)))) 0 0 (mA mo ad) := by
  refine Met.m (by decide) (Nat.le_of_ble_eq_true rfl) ?_
  intro p e s m below meth c ls hx hb hr hts hown hlocks hml hG hl
  have hl : lv_has ls 5 [(0, .ref mo), (1, .int (zI (y : Int))), (2, .int (zI k)), (3, .int (zI x))] := hl
  have hMM := hA.w.m
  have hNN := hA.w.n
  refine lv_iload_n hx hb dX4_clings_0 rfl (lv_at hl 2 rfl) ?_
  rcases (show k = 0 ∨ k = 1 ∨ k = 2 ∨ k = 4 by omega) with hk | hk | hk | hk
  · refine g_look hx hb 0 (off := 35) (tgt := 36) dX4_clings_1 hk (by decide) rfl rfl (by decide) ?_
    subst hk
    refine lv_aload_n hx hb dX4_clings_36 rfl (lv_at hl 0 rfl) ?_
    refine lv_bipush (v := zI 12) hx hb dX4_clings_37 (by decide +kernel) ?_
    refine m_cv (va_runV (As := [.int (zI 12)]) (rest := []) ⟨hx, hb, hml, hown, hts⟩ (metX4_ran hX hA (by omega)) (cwV 1 hts (lw_V q3714 q3716 qs81 q102 q3717) rfl rfl rfl (by decide +kernel) ⟨Nat.le_of_ble_eq_true rfl, Nat.le_of_ble_eq_true rfl⟩) (m_preV hG) rfl rfl hl.1 rfl (lv_room (Nat.le_of_ble_eq_true rfl)) dX4_clings_39 ⟨Nat.le_of_ble_eq_true rfl, Nat.le_of_ble_eq_true rfl⟩) hG (fun S_2 H locs hp hG => ?_)
    have hX1 := hp
    have hG : mW X mo ad S_2 s H locs := hG
    have hA1 : aOK (aSetT a (aTr a ++ [12])) := hA.t (by rw [List.length_append]; show _ + 1 ≤ 20; omega)
    have hl1 : (aTr (aSetT a (aTr a ++ [12]))).length = (aTr a).length + 1 := List.length_append
    refine lv_aload_n hx hb dX4_clings_42 rfl (lv_at hl 0 rfl) ?_
    refine lv_iload_n hx hb dX4_clings_43 rfl (lv_at hl 1 rfl) ?_
    refine lv_aload_n hx hb dX4_clings_44 rfl (lv_at hl 0 rfl) ?_
    refine lv_iconst (v := zI 0) hx hb dX4_clings_45 (by decide +kernel) ?_
    refine lv_iload_n hx hb dX4_clings_46 rfl (lv_at hl 1 rfl) ?_
    refine m_ci (va_runV (As := [.int (zI 0), .int (zI (y : Int))]) (rest := [.int (zI (y : Int)), .ref mo]) ⟨hx, hb, hml, hown, hts⟩ (metX4_of 0 (m0 := y) (by omega)) (cwV 2 hts (lw_V q3467 q3469 qs47 q102 q3470) rfl rfl rfl (by decide +kernel) ⟨Nat.le_of_ble_eq_true rfl, Nat.le_of_ble_eq_true rfl⟩) (m_preV hG) rfl rfl hl.1 rfl (lv_room (Nat.le_of_ble_eq_true rfl)) dX4_clings_47 ⟨Nat.le_of_ble_eq_true rfl, Nat.le_of_ble_eq_true rfl⟩) hG (fun r_3 S_4 H locs hp hG => ?_)
    obtain ⟨rfl, rfl⟩ := hp
    have hG : mW X mo ad S_2 s H locs := hG
    refine g_topz (y := (rKind (wRk (aWd a) y) : Int)) ((congrArg (S_2.2.1 6) (by omega : 16 * 0 + y = y)).trans ((show mO S_2 (aWd a) from hX1.o).kd (m := y) (by omega))) ?_
    have hv1 := hA.w.rk (m := y) (by omega)
    refine lv_iload_n hx hb dX4_clings_50 rfl (lv_at hl 3 rfl) ?_
    refine m_ci (va_runV (As := [.int (zI (y : Int)), .int (zI (rKind (wRk (aWd a) y) : Int)), .int (zI x)]) (rest := []) ⟨hx, hb, hml, hown, hts⟩ (metX4_weighs_h3 (a := (aSetT a (aTr a ++ [12]))) (y := y) (k := (rKind (wRk (aWd a) y) : Int)) (x := x) hX1 hA1 hy9 (by omega) (by omega)) (cwV 3 hts (lw_V q3718 q3720 qs82 q102 q3721) rfl rfl rfl (by decide +kernel) ⟨Nat.le_of_ble_eq_true rfl, Nat.le_of_ble_eq_true rfl⟩) (m_preV hG) rfl rfl hl.1 rfl (lv_room (Nat.le_of_ble_eq_true rfl)) dX4_clings_51 ⟨Nat.le_of_ble_eq_true rfl, Nat.le_of_ble_eq_true rfl⟩) hG (fun r_6 S_7 H locs hp hG => ?_)
    obtain ⟨rfl, hY5⟩ := hp
    have hG : mW X mo ad S_7 s H locs := hG
    have hwl := wgT_l (rKind (wRk (aWd a) y) : Int) (rKind (wRk (aWd a) y) : Int)
    have hX2 : mX S_7 (aSetT a (aTr a ++ [12] ++ wgT (rKind (wRk (aWd a) y) : Int) (rKind (wRk (aWd a) y) : Int))) := hY5
    have hlA : (aTr (aSetT a (aTr a ++ [12] ++ wgT (rKind (wRk (aWd a) y) : Int) (rKind (wRk (aWd a) y) : Int)))).length = (aTr a).length + 1 + (wgT (rKind (wRk (aWd a) y) : Int) (rKind (wRk (aWd a) y) : Int)).length := by show (aTr a ++ [12] ++ wgT (rKind (wRk (aWd a) y) : Int) (rKind (wRk (aWd a) y) : Int)).length = _; rw [List.length_append, List.length_append]; rfl
    have hA2 : aOK (aSetT a (aTr a ++ [12] ++ wgT (rKind (wRk (aWd a) y) : Int) (rKind (wRk (aWd a) y) : Int))) := hA.t (by show (aTr (aSetT a (aTr a ++ [12] ++ wgT (rKind (wRk (aWd a) y) : Int) (rKind (wRk (aWd a) y) : Int)))).length ≤ 20; omega)
    refine lv_istore (lv' := [(4, .int (zI (wgV (y : Int) (rBy (wRk (aWd a) y) : Int) (rKind (wRk (aWd a) y) : Int) (rKind (wRk (aWd a) y) : Int) x))), (0, .ref mo), (1, .int (zI (y : Int))), (2, .int (zI 0)), (3, .int (zI x))]) hx hb dX4_clings_54 hl (by decide) rfl (fun ls hl => ?_)
    refine lv_iload hx hb dX4_clings_56 (lv_at hl 0 rfl) ?_
    refine lv_aload_n hx hb dX4_clings_58 rfl (lv_at hl 1 rfl) ?_
    refine lv_iload_n hx hb dX4_clings_59 rfl (lv_at hl 2 rfl) ?_
    refine lv_aload_n hx hb dX4_clings_60 rfl (lv_at hl 1 rfl) ?_
    refine lv_iconst (v := zI 0) hx hb dX4_clings_61 (by decide +kernel) ?_
    refine lv_iload_n hx hb dX4_clings_62 rfl (lv_at hl 2 rfl) ?_
    refine m_ci (va_runV (As := [.int (zI 0), .int (zI (y : Int))]) (rest := [.int (zI (y : Int)), .ref mo, .int (zI (wgV (y : Int) (rBy (wRk (aWd a) y) : Int) (rKind (wRk (aWd a) y) : Int) (rKind (wRk (aWd a) y) : Int) x))]) ⟨hx, hb, hml, hown, hts⟩ (metX4_of 0 (m0 := y) (by omega)) (cwV 2 hts (lw_V q3467 q3469 qs47 q102 q3470) rfl rfl rfl (by decide +kernel) ⟨Nat.le_of_ble_eq_true rfl, Nat.le_of_ble_eq_true rfl⟩) (m_preV hG) rfl rfl hl.1 rfl (lv_room (Nat.le_of_ble_eq_true rfl)) dX4_clings_63 ⟨Nat.le_of_ble_eq_true rfl, Nat.le_of_ble_eq_true rfl⟩) hG (fun r_8 S_9 H locs hp hG => ?_)
    obtain ⟨rfl, rfl⟩ := hp
    have hG : mW X mo ad S_7 s H locs := hG
    refine g_topz (y := (rKind (wRk (aWd a) y) : Int)) ((congrArg (S_7.2.1 6) (by omega : 16 * 0 + y = y)).trans ((show mO S_7 (aWd a) from hY5.o).kd (m := y) (by omega))) ?_
    have hv2 := hA.w.rk (m := y) (by omega)
    refine lv_iload_n hx hb dX4_clings_66 rfl (lv_at hl 4 rfl) ?_
    refine lv_aload_n hx hb dX4_clings_67 rfl (lv_at hl 1 rfl) ?_
    refine lv_iconst (v := zI 1) hx hb dX4_clings_68 (by decide +kernel) ?_
    refine lv_iload_n hx hb dX4_clings_69 rfl (lv_at hl 2 rfl) ?_
    refine m_ci (va_runV (As := [.int (zI 1), .int (zI (y : Int))]) (rest := [.int (zI x), .int (zI (rKind (wRk (aWd a) y) : Int)), .int (zI (y : Int)), .ref mo, .int (zI (wgV (y : Int) (rBy (wRk (aWd a) y) : Int) (rKind (wRk (aWd a) y) : Int) (rKind (wRk (aWd a) y) : Int) x))]) ⟨hx, hb, hml, hown, hts⟩ (metX4_of 1 (m0 := y) (by omega)) (cwV 2 hts (lw_V q3467 q3469 qs47 q102 q3470) rfl rfl rfl (by decide +kernel) ⟨Nat.le_of_ble_eq_true rfl, Nat.le_of_ble_eq_true rfl⟩) (m_preV hG) rfl rfl hl.1 rfl (lv_room (Nat.le_of_ble_eq_true rfl)) dX4_clings_70 ⟨Nat.le_of_ble_eq_true rfl, Nat.le_of_ble_eq_true rfl⟩) hG (fun r_10 S_11 H locs hp hG => ?_)
    obtain ⟨rfl, rfl⟩ := hp
    have hG : mW X mo ad S_7 s H locs := hG
    refine g_topz (y := (rBy (wRk (aWd a) y) : Int)) ((show mO S_7 (aWd a) from hY5.o).by (m := y) (by omega)) ?_
    have hv3 := hA.w.rk (m := y) (by omega)
    refine g_isub hx hb dX4_clings_73 ?_
    refine m_ci (va_runV (As := [.int (zI (y : Int)), .int (zI (rKind (wRk (aWd a) y) : Int)), .int (zI (x - (rBy (wRk (aWd a) y) : Int)))]) (rest := [.int (zI (wgV (y : Int) (rBy (wRk (aWd a) y) : Int) (rKind (wRk (aWd a) y) : Int) (rKind (wRk (aWd a) y) : Int) x))]) ⟨hx, hb, hml, hown, hts⟩ (metX4_points_h3 (a := (aSetT a (aTr a ++ [12] ++ wgT (rKind (wRk (aWd a) y) : Int) (rKind (wRk (aWd a) y) : Int)))) (y := y) (k := (rKind (wRk (aWd a) y) : Int)) (x := (x - (rBy (wRk (aWd a) y) : Int))) hX2 hA2 hy9 (by omega) (by omega)) (cwV 3 hts (lw_V q3710 q3712 qs80 q102 q3713) rfl rfl rfl (by decide +kernel) ⟨Nat.le_of_ble_eq_true rfl, Nat.le_of_ble_eq_true rfl⟩) (m_preV hG) rfl rfl hl.1 rfl (lv_room (Nat.le_of_ble_eq_true rfl)) dX4_clings_74 ⟨Nat.le_of_ble_eq_true rfl, Nat.le_of_ble_eq_true rfl⟩) hG (fun r_13 S_14 H locs hp hG => ?_)
    obtain ⟨rfl, hY12⟩ := hp
    have hG : mW X mo ad S_14 s H locs := hG
    refine lv_ixor hx hb dX4_clings_77 ?_
    exact m_iret hx hb hr hlocks hG (⟨by unfold clV; rfl, mX_cl hY12⟩) ⟨Nat.le_of_ble_eq_true rfl, Nat.le_of_ble_eq_true rfl⟩ dX4_clings_78
  · refine g_look hx hb 1 (off := 109) (tgt := 110) dX4_clings_1 hk (by decide) rfl rfl (by decide) ?_
    subst hk
    refine lv_aload_n hx hb dX4_clings_110 rfl (lv_at hl 0 rfl) ?_
    refine lv_iload_n hx hb dX4_clings_111 rfl (lv_at hl 1 rfl) ?_
    refine lv_iload_n hx hb dX4_clings_112 rfl (lv_at hl 2 rfl) ?_
    refine m_ci (va_runS (As := [.int (zI 1)]) (rest := [.int (zI (y : Int)), .ref mo]) ⟨hx, hb, hml, hown, hts⟩ (metX4_above (by omega)) (va_cwS 1 hts (lw_S q3474 q3475 q102 q3476) rfl rfl rfl (by decide +kernel) ⟨Nat.le_of_ble_eq_true rfl, Nat.le_of_ble_eq_true rfl⟩) (m_preS hG) rfl rfl hl.1 rfl (lv_room (Nat.le_of_ble_eq_true rfl)) dX4_clings_113 ⟨Nat.le_of_ble_eq_true rfl, Nat.le_of_ble_eq_true rfl⟩) hG (fun r_15 S_16 H locs hp hG => ?_)
    obtain ⟨rfl, rfl⟩ := hp
    have hG : mW X mo ad S s H locs := hG
    refine g_topz (y := 0) (by decide) ?_
    refine lv_iload_n hx hb dX4_clings_116 rfl (lv_at hl 3 rfl) ?_
    refine m_ci (va_runV (As := [.int (zI (y : Int)), .int (zI 0), .int (zI x)]) (rest := []) ⟨hx, hb, hml, hown, hts⟩ (metX4_clings_h0 (a := a) (y := y) (k := 0) (x := x) hX hA hy9 (by omega) (by omega)) (cwV 3 hts (lw_V q3722 q3724 qs83 q102 q3725) rfl rfl rfl (by decide +kernel) ⟨Nat.le_of_ble_eq_true rfl, Nat.le_of_ble_eq_true rfl⟩) (m_preV hG) rfl rfl hl.1 rfl (lv_room (Nat.le_of_ble_eq_true rfl)) dX4_clings_117 ⟨Nat.le_of_ble_eq_true rfl, Nat.le_of_ble_eq_true rfl⟩) hG (fun r_18 S_19 H locs hp hG => ?_)
    obtain ⟨rfl, hY17⟩ := hp
    have hG : mW X mo ad S_19 s H locs := hG
    exact m_iret hx hb hr hlocks hG (⟨by first | rfl | (unfold ptV; rfl) | (unfold wgV; rfl) | (unfold clV; rfl), hY17⟩) ⟨Nat.le_of_ble_eq_true rfl, Nat.le_of_ble_eq_true rfl⟩ dX4_clings_120
  · refine g_look hx hb 2 (off := 109) (tgt := 110) dX4_clings_1 hk (by decide) rfl rfl (by decide) ?_
    subst hk
    refine lv_aload_n hx hb dX4_clings_110 rfl (lv_at hl 0 rfl) ?_
    refine lv_iload_n hx hb dX4_clings_111 rfl (lv_at hl 1 rfl) ?_
    refine lv_iload_n hx hb dX4_clings_112 rfl (lv_at hl 2 rfl) ?_
    refine m_ci (va_runS (As := [.int (zI 2)]) (rest := [.int (zI (y : Int)), .ref mo]) ⟨hx, hb, hml, hown, hts⟩ (metX4_above (by omega)) (va_cwS 1 hts (lw_S q3474 q3475 q102 q3476) rfl rfl rfl (by decide +kernel) ⟨Nat.le_of_ble_eq_true rfl, Nat.le_of_ble_eq_true rfl⟩) (m_preS hG) rfl rfl hl.1 rfl (lv_room (Nat.le_of_ble_eq_true rfl)) dX4_clings_113 ⟨Nat.le_of_ble_eq_true rfl, Nat.le_of_ble_eq_true rfl⟩) hG (fun r_20 S_21 H locs hp hG => ?_)
    obtain ⟨rfl, rfl⟩ := hp
    have hG : mW X mo ad S s H locs := hG
    refine g_topz (y := 0) (by decide) ?_
    refine lv_iload_n hx hb dX4_clings_116 rfl (lv_at hl 3 rfl) ?_
    refine m_ci (va_runV (As := [.int (zI (y : Int)), .int (zI 0), .int (zI x)]) (rest := []) ⟨hx, hb, hml, hown, hts⟩ (metX4_clings_h0 (a := a) (y := y) (k := 0) (x := x) hX hA hy9 (by omega) (by omega)) (cwV 3 hts (lw_V q3722 q3724 qs83 q102 q3725) rfl rfl rfl (by decide +kernel) ⟨Nat.le_of_ble_eq_true rfl, Nat.le_of_ble_eq_true rfl⟩) (m_preV hG) rfl rfl hl.1 rfl (lv_room (Nat.le_of_ble_eq_true rfl)) dX4_clings_117 ⟨Nat.le_of_ble_eq_true rfl, Nat.le_of_ble_eq_true rfl⟩) hG (fun r_23 S_24 H locs hp hG => ?_)
    obtain ⟨rfl, hY22⟩ := hp
    have hG : mW X mo ad S_24 s H locs := hG
    exact m_iret hx hb hr hlocks hG (⟨by first | rfl | (unfold ptV; rfl) | (unfold wgV; rfl) | (unfold clV; rfl), hY22⟩) ⟨Nat.le_of_ble_eq_true rfl, Nat.le_of_ble_eq_true rfl⟩ dX4_clings_120
  · refine g_look hx hb 4 (off := 78) (tgt := 79) dX4_clings_1 hk (by decide) rfl rfl (by decide) ?_
    subst hk
    refine lv_aload_n hx hb dX4_clings_79 rfl (lv_at hl 0 rfl) ?_
    refine lv_bipush (v := zI 50) hx hb dX4_clings_80 (by decide +kernel) ?_
    refine m_cv (va_runV (As := [.int (zI 50)]) (rest := []) ⟨hx, hb, hml, hown, hts⟩ (metX4_ran hX hA (by omega)) (cwV 1 hts (lw_V q3714 q3716 qs81 q102 q3717) rfl rfl rfl (by decide +kernel) ⟨Nat.le_of_ble_eq_true rfl, Nat.le_of_ble_eq_true rfl⟩) (m_preV hG) rfl rfl hl.1 rfl (lv_room (Nat.le_of_ble_eq_true rfl)) dX4_clings_82 ⟨Nat.le_of_ble_eq_true rfl, Nat.le_of_ble_eq_true rfl⟩) hG (fun S_26 H locs hp hG => ?_)
    have hX1 := hp
    have hG : mW X mo ad S_26 s H locs := hG
    have hA1 : aOK (aSetT a (aTr a ++ [50])) := hA.t (by rw [List.length_append]; show _ + 1 ≤ 20; omega)
    have hl1 : (aTr (aSetT a (aTr a ++ [50]))).length = (aTr a).length + 1 := List.length_append
    refine lv_aload_n hx hb dX4_clings_85 rfl (lv_at hl 0 rfl) ?_
    refine lv_iload_n hx hb dX4_clings_86 rfl (lv_at hl 1 rfl) ?_
    refine lv_iconst (v := zI 0) hx hb dX4_clings_87 (by decide +kernel) ?_
    refine lv_iload_n hx hb dX4_clings_88 rfl (lv_at hl 3 rfl) ?_
    refine m_ci (va_runV (As := [.int (zI (y : Int)), .int (zI 0), .int (zI x)]) (rest := []) ⟨hx, hb, hml, hown, hts⟩ (metX4_clings_h0 (a := (aSetT a (aTr a ++ [50]))) (y := y) (k := 0) (x := x) hX1 hA1 hy9 (by omega) (by omega)) (cwV 3 hts (lw_V q3722 q3724 qs83 q102 q3725) rfl rfl rfl (by decide +kernel) ⟨Nat.le_of_ble_eq_true rfl, Nat.le_of_ble_eq_true rfl⟩) (m_preV hG) rfl rfl hl.1 rfl (lv_room (Nat.le_of_ble_eq_true rfl)) dX4_clings_89 ⟨Nat.le_of_ble_eq_true rfl, Nat.le_of_ble_eq_true rfl⟩) hG (fun r_28 S_29 H locs hp hG => ?_)
    obtain ⟨rfl, hY27⟩ := hp
    have hG : mW X mo ad S_29 s H locs := hG
    refine lv_ineg hx hb dX4_clings_92 ?_
    exact m_iret hx hb hr hlocks hG (⟨by first | rfl | (unfold ptV; rfl) | (unfold wgV; rfl) | (unfold clV; rfl), hY27.ap (u := [50]) rfl⟩) ⟨Nat.le_of_ble_eq_true rfl, Nat.le_of_ble_eq_true rfl⟩ dX4_clings_93

set_option maxHeartbeats 4000000 in
theorem metX4_clings_h2 {l : Launch} {X : gX} {mo : Nat} {ad : Nat → Nat} {S : mS} {a : aS} (hX : mX S a) (hA : aOK a) {y : Nat} {k x : Int} (hy9 : y < wM (aWd a)) (hk9 : k = 0 ∨ k = 1 ∨ k = 2 ∨ k = 3 ∨ k = 4 ∨ k = 5) (hlen : (aTr a).length + 17 ≤ 20) : Met l yX4_clings (ws_ yX4_clings cX4_clings 5 (some FieldType.int)) ({ frames := 11, cells := 0, slots := 0, locals := 253 }) (mP X mo ad S [.ref mo, .int (zI (y : Int)), .int (zI k), .int (zI x)]) (mQi X mo ad (fun u T => u = clV (y : Int) (rBy (wRk (aWd a) y) : Int) (rKind (wRk (aWd a) y) : Int) k x ∧ mX T (aSetT a (aTr a ++ clT (rKind (wRk (aWd a) y) : Int) k)))) 0 0 (mA mo ad) := by
  refine Met.m (by decide) (Nat.le_of_ble_eq_true rfl) ?_
  intro p e s m below meth c ls hx hb hr hts hown hlocks hml hG hl
  have hl : lv_has ls 5 [(0, .ref mo), (1, .int (zI (y : Int))), (2, .int (zI k)), (3, .int (zI x))] := hl
  have hMM := hA.w.m
  have hNN := hA.w.n
  refine lv_iload_n hx hb dX4_clings_0 rfl (lv_at hl 2 rfl) ?_
  rcases (show k = 0 ∨ k = 1 ∨ k = 2 ∨ k = 3 ∨ k = 4 ∨ k = 5 by omega) with hk | hk | hk | hk | hk | hk
  · refine g_look hx hb 0 (off := 35) (tgt := 36) dX4_clings_1 hk (by decide) rfl rfl (by decide) ?_
    subst hk
    refine lv_aload_n hx hb dX4_clings_36 rfl (lv_at hl 0 rfl) ?_
    refine lv_bipush (v := zI 12) hx hb dX4_clings_37 (by decide +kernel) ?_
    refine m_cv (va_runV (As := [.int (zI 12)]) (rest := []) ⟨hx, hb, hml, hown, hts⟩ (metX4_ran hX hA (by omega)) (cwV 1 hts (lw_V q3714 q3716 qs81 q102 q3717) rfl rfl rfl (by decide +kernel) ⟨Nat.le_of_ble_eq_true rfl, Nat.le_of_ble_eq_true rfl⟩) (m_preV hG) rfl rfl hl.1 rfl (lv_room (Nat.le_of_ble_eq_true rfl)) dX4_clings_39 ⟨Nat.le_of_ble_eq_true rfl, Nat.le_of_ble_eq_true rfl⟩) hG (fun S_2 H locs hp hG => ?_)
    have hX1 := hp
    have hG : mW X mo ad S_2 s H locs := hG
    have hA1 : aOK (aSetT a (aTr a ++ [12])) := hA.t (by rw [List.length_append]; show _ + 1 ≤ 20; omega)
    have hl1 : (aTr (aSetT a (aTr a ++ [12]))).length = (aTr a).length + 1 := List.length_append
    refine lv_aload_n hx hb dX4_clings_42 rfl (lv_at hl 0 rfl) ?_
    refine lv_iload_n hx hb dX4_clings_43 rfl (lv_at hl 1 rfl) ?_
    refine lv_aload_n hx hb dX4_clings_44 rfl (lv_at hl 0 rfl) ?_
    refine lv_iconst (v := zI 0) hx hb dX4_clings_45 (by decide +kernel) ?_
    refine lv_iload_n hx hb dX4_clings_46 rfl (lv_at hl 1 rfl) ?_
    refine m_ci (va_runV (As := [.int (zI 0), .int (zI (y : Int))]) (rest := [.int (zI (y : Int)), .ref mo]) ⟨hx, hb, hml, hown, hts⟩ (metX4_of 0 (m0 := y) (by omega)) (cwV 2 hts (lw_V q3467 q3469 qs47 q102 q3470) rfl rfl rfl (by decide +kernel) ⟨Nat.le_of_ble_eq_true rfl, Nat.le_of_ble_eq_true rfl⟩) (m_preV hG) rfl rfl hl.1 rfl (lv_room (Nat.le_of_ble_eq_true rfl)) dX4_clings_47 ⟨Nat.le_of_ble_eq_true rfl, Nat.le_of_ble_eq_true rfl⟩) hG (fun r_3 S_4 H locs hp hG => ?_)
    obtain ⟨rfl, rfl⟩ := hp
    have hG : mW X mo ad S_2 s H locs := hG
    refine g_topz (y := (rKind (wRk (aWd a) y) : Int)) ((congrArg (S_2.2.1 6) (by omega : 16 * 0 + y = y)).trans ((show mO S_2 (aWd a) from hX1.o).kd (m := y) (by omega))) ?_
    have hv1 := hA.w.rk (m := y) (by omega)
    refine lv_iload_n hx hb dX4_clings_50 rfl (lv_at hl 3 rfl) ?_
    refine m_ci (va_runV (As := [.int (zI (y : Int)), .int (zI (rKind (wRk (aWd a) y) : Int)), .int (zI x)]) (rest := []) ⟨hx, hb, hml, hown, hts⟩ (metX4_weighs_h3 (a := (aSetT a (aTr a ++ [12]))) (y := y) (k := (rKind (wRk (aWd a) y) : Int)) (x := x) hX1 hA1 hy9 (by omega) (by omega)) (cwV 3 hts (lw_V q3718 q3720 qs82 q102 q3721) rfl rfl rfl (by decide +kernel) ⟨Nat.le_of_ble_eq_true rfl, Nat.le_of_ble_eq_true rfl⟩) (m_preV hG) rfl rfl hl.1 rfl (lv_room (Nat.le_of_ble_eq_true rfl)) dX4_clings_51 ⟨Nat.le_of_ble_eq_true rfl, Nat.le_of_ble_eq_true rfl⟩) hG (fun r_6 S_7 H locs hp hG => ?_)
    obtain ⟨rfl, hY5⟩ := hp
    have hG : mW X mo ad S_7 s H locs := hG
    have hwl := wgT_l (rKind (wRk (aWd a) y) : Int) (rKind (wRk (aWd a) y) : Int)
    have hX2 : mX S_7 (aSetT a (aTr a ++ [12] ++ wgT (rKind (wRk (aWd a) y) : Int) (rKind (wRk (aWd a) y) : Int))) := hY5
    have hlA : (aTr (aSetT a (aTr a ++ [12] ++ wgT (rKind (wRk (aWd a) y) : Int) (rKind (wRk (aWd a) y) : Int)))).length = (aTr a).length + 1 + (wgT (rKind (wRk (aWd a) y) : Int) (rKind (wRk (aWd a) y) : Int)).length := by show (aTr a ++ [12] ++ wgT (rKind (wRk (aWd a) y) : Int) (rKind (wRk (aWd a) y) : Int)).length = _; rw [List.length_append, List.length_append]; rfl
    have hA2 : aOK (aSetT a (aTr a ++ [12] ++ wgT (rKind (wRk (aWd a) y) : Int) (rKind (wRk (aWd a) y) : Int))) := hA.t (by show (aTr (aSetT a (aTr a ++ [12] ++ wgT (rKind (wRk (aWd a) y) : Int) (rKind (wRk (aWd a) y) : Int)))).length ≤ 20; omega)
    refine lv_istore (lv' := [(4, .int (zI (wgV (y : Int) (rBy (wRk (aWd a) y) : Int) (rKind (wRk (aWd a) y) : Int) (rKind (wRk (aWd a) y) : Int) x))), (0, .ref mo), (1, .int (zI (y : Int))), (2, .int (zI 0)), (3, .int (zI x))]) hx hb dX4_clings_54 hl (by decide) rfl (fun ls hl => ?_)
    refine lv_iload hx hb dX4_clings_56 (lv_at hl 0 rfl) ?_
    refine lv_aload_n hx hb dX4_clings_58 rfl (lv_at hl 1 rfl) ?_
    refine lv_iload_n hx hb dX4_clings_59 rfl (lv_at hl 2 rfl) ?_
    refine lv_aload_n hx hb dX4_clings_60 rfl (lv_at hl 1 rfl) ?_
    refine lv_iconst (v := zI 0) hx hb dX4_clings_61 (by decide +kernel) ?_
    refine lv_iload_n hx hb dX4_clings_62 rfl (lv_at hl 2 rfl) ?_
    refine m_ci (va_runV (As := [.int (zI 0), .int (zI (y : Int))]) (rest := [.int (zI (y : Int)), .ref mo, .int (zI (wgV (y : Int) (rBy (wRk (aWd a) y) : Int) (rKind (wRk (aWd a) y) : Int) (rKind (wRk (aWd a) y) : Int) x))]) ⟨hx, hb, hml, hown, hts⟩ (metX4_of 0 (m0 := y) (by omega)) (cwV 2 hts (lw_V q3467 q3469 qs47 q102 q3470) rfl rfl rfl (by decide +kernel) ⟨Nat.le_of_ble_eq_true rfl, Nat.le_of_ble_eq_true rfl⟩) (m_preV hG) rfl rfl hl.1 rfl (lv_room (Nat.le_of_ble_eq_true rfl)) dX4_clings_63 ⟨Nat.le_of_ble_eq_true rfl, Nat.le_of_ble_eq_true rfl⟩) hG (fun r_8 S_9 H locs hp hG => ?_)
    obtain ⟨rfl, rfl⟩ := hp
    have hG : mW X mo ad S_7 s H locs := hG
    refine g_topz (y := (rKind (wRk (aWd a) y) : Int)) ((congrArg (S_7.2.1 6) (by omega : 16 * 0 + y = y)).trans ((show mO S_7 (aWd a) from hY5.o).kd (m := y) (by omega))) ?_
    have hv2 := hA.w.rk (m := y) (by omega)
    refine lv_iload_n hx hb dX4_clings_66 rfl (lv_at hl 4 rfl) ?_
    refine lv_aload_n hx hb dX4_clings_67 rfl (lv_at hl 1 rfl) ?_
    refine lv_iconst (v := zI 1) hx hb dX4_clings_68 (by decide +kernel) ?_
    refine lv_iload_n hx hb dX4_clings_69 rfl (lv_at hl 2 rfl) ?_
    refine m_ci (va_runV (As := [.int (zI 1), .int (zI (y : Int))]) (rest := [.int (zI x), .int (zI (rKind (wRk (aWd a) y) : Int)), .int (zI (y : Int)), .ref mo, .int (zI (wgV (y : Int) (rBy (wRk (aWd a) y) : Int) (rKind (wRk (aWd a) y) : Int) (rKind (wRk (aWd a) y) : Int) x))]) ⟨hx, hb, hml, hown, hts⟩ (metX4_of 1 (m0 := y) (by omega)) (cwV 2 hts (lw_V q3467 q3469 qs47 q102 q3470) rfl rfl rfl (by decide +kernel) ⟨Nat.le_of_ble_eq_true rfl, Nat.le_of_ble_eq_true rfl⟩) (m_preV hG) rfl rfl hl.1 rfl (lv_room (Nat.le_of_ble_eq_true rfl)) dX4_clings_70 ⟨Nat.le_of_ble_eq_true rfl, Nat.le_of_ble_eq_true rfl⟩) hG (fun r_10 S_11 H locs hp hG => ?_)
    obtain ⟨rfl, rfl⟩ := hp
    have hG : mW X mo ad S_7 s H locs := hG
    refine g_topz (y := (rBy (wRk (aWd a) y) : Int)) ((show mO S_7 (aWd a) from hY5.o).by (m := y) (by omega)) ?_
    have hv3 := hA.w.rk (m := y) (by omega)
    refine g_isub hx hb dX4_clings_73 ?_
    refine m_ci (va_runV (As := [.int (zI (y : Int)), .int (zI (rKind (wRk (aWd a) y) : Int)), .int (zI (x - (rBy (wRk (aWd a) y) : Int)))]) (rest := [.int (zI (wgV (y : Int) (rBy (wRk (aWd a) y) : Int) (rKind (wRk (aWd a) y) : Int) (rKind (wRk (aWd a) y) : Int) x))]) ⟨hx, hb, hml, hown, hts⟩ (metX4_points_h3 (a := (aSetT a (aTr a ++ [12] ++ wgT (rKind (wRk (aWd a) y) : Int) (rKind (wRk (aWd a) y) : Int)))) (y := y) (k := (rKind (wRk (aWd a) y) : Int)) (x := (x - (rBy (wRk (aWd a) y) : Int))) hX2 hA2 hy9 (by omega) (by omega)) (cwV 3 hts (lw_V q3710 q3712 qs80 q102 q3713) rfl rfl rfl (by decide +kernel) ⟨Nat.le_of_ble_eq_true rfl, Nat.le_of_ble_eq_true rfl⟩) (m_preV hG) rfl rfl hl.1 rfl (lv_room (Nat.le_of_ble_eq_true rfl)) dX4_clings_74 ⟨Nat.le_of_ble_eq_true rfl, Nat.le_of_ble_eq_true rfl⟩) hG (fun r_13 S_14 H locs hp hG => ?_)
    obtain ⟨rfl, hY12⟩ := hp
    have hG : mW X mo ad S_14 s H locs := hG
    refine lv_ixor hx hb dX4_clings_77 ?_
    exact m_iret hx hb hr hlocks hG (⟨by unfold clV; rfl, mX_cl hY12⟩) ⟨Nat.le_of_ble_eq_true rfl, Nat.le_of_ble_eq_true rfl⟩ dX4_clings_78
  · refine g_look hx hb 1 (off := 109) (tgt := 110) dX4_clings_1 hk (by decide) rfl rfl (by decide) ?_
    subst hk
    refine lv_aload_n hx hb dX4_clings_110 rfl (lv_at hl 0 rfl) ?_
    refine lv_iload_n hx hb dX4_clings_111 rfl (lv_at hl 1 rfl) ?_
    refine lv_iload_n hx hb dX4_clings_112 rfl (lv_at hl 2 rfl) ?_
    refine m_ci (va_runS (As := [.int (zI 1)]) (rest := [.int (zI (y : Int)), .ref mo]) ⟨hx, hb, hml, hown, hts⟩ (metX4_above (by omega)) (va_cwS 1 hts (lw_S q3474 q3475 q102 q3476) rfl rfl rfl (by decide +kernel) ⟨Nat.le_of_ble_eq_true rfl, Nat.le_of_ble_eq_true rfl⟩) (m_preS hG) rfl rfl hl.1 rfl (lv_room (Nat.le_of_ble_eq_true rfl)) dX4_clings_113 ⟨Nat.le_of_ble_eq_true rfl, Nat.le_of_ble_eq_true rfl⟩) hG (fun r_15 S_16 H locs hp hG => ?_)
    obtain ⟨rfl, rfl⟩ := hp
    have hG : mW X mo ad S s H locs := hG
    refine g_topz (y := 0) (by decide) ?_
    refine lv_iload_n hx hb dX4_clings_116 rfl (lv_at hl 3 rfl) ?_
    refine m_ci (va_runV (As := [.int (zI (y : Int)), .int (zI 0), .int (zI x)]) (rest := []) ⟨hx, hb, hml, hown, hts⟩ (metX4_clings_h1 (a := a) (y := y) (k := 0) (x := x) hX hA hy9 (by omega) (by omega)) (cwV 3 hts (lw_V q3722 q3724 qs83 q102 q3725) rfl rfl rfl (by decide +kernel) ⟨Nat.le_of_ble_eq_true rfl, Nat.le_of_ble_eq_true rfl⟩) (m_preV hG) rfl rfl hl.1 rfl (lv_room (Nat.le_of_ble_eq_true rfl)) dX4_clings_117 ⟨Nat.le_of_ble_eq_true rfl, Nat.le_of_ble_eq_true rfl⟩) hG (fun r_18 S_19 H locs hp hG => ?_)
    obtain ⟨rfl, hY17⟩ := hp
    have hG : mW X mo ad S_19 s H locs := hG
    exact m_iret hx hb hr hlocks hG (⟨by first | rfl | (unfold ptV; rfl) | (unfold wgV; rfl) | (unfold clV; rfl), hY17⟩) ⟨Nat.le_of_ble_eq_true rfl, Nat.le_of_ble_eq_true rfl⟩ dX4_clings_120
  · refine g_look hx hb 2 (off := 109) (tgt := 110) dX4_clings_1 hk (by decide) rfl rfl (by decide) ?_
    subst hk
    refine lv_aload_n hx hb dX4_clings_110 rfl (lv_at hl 0 rfl) ?_
    refine lv_iload_n hx hb dX4_clings_111 rfl (lv_at hl 1 rfl) ?_
    refine lv_iload_n hx hb dX4_clings_112 rfl (lv_at hl 2 rfl) ?_
    refine m_ci (va_runS (As := [.int (zI 2)]) (rest := [.int (zI (y : Int)), .ref mo]) ⟨hx, hb, hml, hown, hts⟩ (metX4_above (by omega)) (va_cwS 1 hts (lw_S q3474 q3475 q102 q3476) rfl rfl rfl (by decide +kernel) ⟨Nat.le_of_ble_eq_true rfl, Nat.le_of_ble_eq_true rfl⟩) (m_preS hG) rfl rfl hl.1 rfl (lv_room (Nat.le_of_ble_eq_true rfl)) dX4_clings_113 ⟨Nat.le_of_ble_eq_true rfl, Nat.le_of_ble_eq_true rfl⟩) hG (fun r_20 S_21 H locs hp hG => ?_)
    obtain ⟨rfl, rfl⟩ := hp
    have hG : mW X mo ad S s H locs := hG
    refine g_topz (y := 0) (by decide) ?_
    refine lv_iload_n hx hb dX4_clings_116 rfl (lv_at hl 3 rfl) ?_
    refine m_ci (va_runV (As := [.int (zI (y : Int)), .int (zI 0), .int (zI x)]) (rest := []) ⟨hx, hb, hml, hown, hts⟩ (metX4_clings_h1 (a := a) (y := y) (k := 0) (x := x) hX hA hy9 (by omega) (by omega)) (cwV 3 hts (lw_V q3722 q3724 qs83 q102 q3725) rfl rfl rfl (by decide +kernel) ⟨Nat.le_of_ble_eq_true rfl, Nat.le_of_ble_eq_true rfl⟩) (m_preV hG) rfl rfl hl.1 rfl (lv_room (Nat.le_of_ble_eq_true rfl)) dX4_clings_117 ⟨Nat.le_of_ble_eq_true rfl, Nat.le_of_ble_eq_true rfl⟩) hG (fun r_23 S_24 H locs hp hG => ?_)
    obtain ⟨rfl, hY22⟩ := hp
    have hG : mW X mo ad S_24 s H locs := hG
    exact m_iret hx hb hr hlocks hG (⟨by first | rfl | (unfold ptV; rfl) | (unfold wgV; rfl) | (unfold clV; rfl), hY22⟩) ⟨Nat.le_of_ble_eq_true rfl, Nat.le_of_ble_eq_true rfl⟩ dX4_clings_120
  · refine g_look hx hb 3 (off := 109) (tgt := 110) dX4_clings_1 hk (by decide) rfl rfl (by decide) ?_
    subst hk
    refine lv_aload_n hx hb dX4_clings_110 rfl (lv_at hl 0 rfl) ?_
    refine lv_iload_n hx hb dX4_clings_111 rfl (lv_at hl 1 rfl) ?_
    refine lv_iload_n hx hb dX4_clings_112 rfl (lv_at hl 2 rfl) ?_
    refine m_ci (va_runS (As := [.int (zI 3)]) (rest := [.int (zI (y : Int)), .ref mo]) ⟨hx, hb, hml, hown, hts⟩ (metX4_above (by omega)) (va_cwS 1 hts (lw_S q3474 q3475 q102 q3476) rfl rfl rfl (by decide +kernel) ⟨Nat.le_of_ble_eq_true rfl, Nat.le_of_ble_eq_true rfl⟩) (m_preS hG) rfl rfl hl.1 rfl (lv_room (Nat.le_of_ble_eq_true rfl)) dX4_clings_113 ⟨Nat.le_of_ble_eq_true rfl, Nat.le_of_ble_eq_true rfl⟩) hG (fun r_25 S_26 H locs hp hG => ?_)
    obtain ⟨rfl, rfl⟩ := hp
    have hG : mW X mo ad S s H locs := hG
    refine g_topz (y := 1) (by decide) ?_
    refine lv_iload_n hx hb dX4_clings_116 rfl (lv_at hl 3 rfl) ?_
    refine m_ci (va_runV (As := [.int (zI (y : Int)), .int (zI 1), .int (zI x)]) (rest := []) ⟨hx, hb, hml, hown, hts⟩ (metX4_clings_h1 (a := a) (y := y) (k := 1) (x := x) hX hA hy9 (by omega) (by omega)) (cwV 3 hts (lw_V q3722 q3724 qs83 q102 q3725) rfl rfl rfl (by decide +kernel) ⟨Nat.le_of_ble_eq_true rfl, Nat.le_of_ble_eq_true rfl⟩) (m_preV hG) rfl rfl hl.1 rfl (lv_room (Nat.le_of_ble_eq_true rfl)) dX4_clings_117 ⟨Nat.le_of_ble_eq_true rfl, Nat.le_of_ble_eq_true rfl⟩) hG (fun r_28 S_29 H locs hp hG => ?_)
    obtain ⟨rfl, hY27⟩ := hp
    have hG : mW X mo ad S_29 s H locs := hG
    exact m_iret hx hb hr hlocks hG (⟨by first | rfl | (unfold ptV; rfl) | (unfold wgV; rfl) | (unfold clV; rfl), hY27⟩) ⟨Nat.le_of_ble_eq_true rfl, Nat.le_of_ble_eq_true rfl⟩ dX4_clings_120
  · refine g_look hx hb 4 (off := 78) (tgt := 79) dX4_clings_1 hk (by decide) rfl rfl (by decide) ?_
    subst hk
    refine lv_aload_n hx hb dX4_clings_79 rfl (lv_at hl 0 rfl) ?_
    refine lv_bipush (v := zI 50) hx hb dX4_clings_80 (by decide +kernel) ?_
    refine m_cv (va_runV (As := [.int (zI 50)]) (rest := []) ⟨hx, hb, hml, hown, hts⟩ (metX4_ran hX hA (by omega)) (cwV 1 hts (lw_V q3714 q3716 qs81 q102 q3717) rfl rfl rfl (by decide +kernel) ⟨Nat.le_of_ble_eq_true rfl, Nat.le_of_ble_eq_true rfl⟩) (m_preV hG) rfl rfl hl.1 rfl (lv_room (Nat.le_of_ble_eq_true rfl)) dX4_clings_82 ⟨Nat.le_of_ble_eq_true rfl, Nat.le_of_ble_eq_true rfl⟩) hG (fun S_31 H locs hp hG => ?_)
    have hX1 := hp
    have hG : mW X mo ad S_31 s H locs := hG
    have hA1 : aOK (aSetT a (aTr a ++ [50])) := hA.t (by rw [List.length_append]; show _ + 1 ≤ 20; omega)
    have hl1 : (aTr (aSetT a (aTr a ++ [50]))).length = (aTr a).length + 1 := List.length_append
    refine lv_aload_n hx hb dX4_clings_85 rfl (lv_at hl 0 rfl) ?_
    refine lv_iload_n hx hb dX4_clings_86 rfl (lv_at hl 1 rfl) ?_
    refine lv_iconst (v := zI 0) hx hb dX4_clings_87 (by decide +kernel) ?_
    refine lv_iload_n hx hb dX4_clings_88 rfl (lv_at hl 3 rfl) ?_
    refine m_ci (va_runV (As := [.int (zI (y : Int)), .int (zI 0), .int (zI x)]) (rest := []) ⟨hx, hb, hml, hown, hts⟩ (metX4_clings_h1 (a := (aSetT a (aTr a ++ [50]))) (y := y) (k := 0) (x := x) hX1 hA1 hy9 (by omega) (by omega)) (cwV 3 hts (lw_V q3722 q3724 qs83 q102 q3725) rfl rfl rfl (by decide +kernel) ⟨Nat.le_of_ble_eq_true rfl, Nat.le_of_ble_eq_true rfl⟩) (m_preV hG) rfl rfl hl.1 rfl (lv_room (Nat.le_of_ble_eq_true rfl)) dX4_clings_89 ⟨Nat.le_of_ble_eq_true rfl, Nat.le_of_ble_eq_true rfl⟩) hG (fun r_33 S_34 H locs hp hG => ?_)
    obtain ⟨rfl, hY32⟩ := hp
    have hG : mW X mo ad S_34 s H locs := hG
    refine lv_ineg hx hb dX4_clings_92 ?_
    exact m_iret hx hb hr hlocks hG (⟨by first | rfl | (unfold ptV; rfl) | (unfold wgV; rfl) | (unfold clV; rfl), hY32.ap (u := [50]) rfl⟩) ⟨Nat.le_of_ble_eq_true rfl, Nat.le_of_ble_eq_true rfl⟩ dX4_clings_93
  · refine g_look hx hb 5 (off := 93) (tgt := 94) dX4_clings_1 hk (by decide) rfl rfl (by decide) ?_
    subst hk
    refine lv_aload_n hx hb dX4_clings_94 rfl (lv_at hl 0 rfl) ?_
    refine lv_bipush (v := zI 60) hx hb dX4_clings_95 (by decide +kernel) ?_
    refine m_cv (va_runV (As := [.int (zI 60)]) (rest := []) ⟨hx, hb, hml, hown, hts⟩ (metX4_ran hX hA (by omega)) (cwV 1 hts (lw_V q3714 q3716 qs81 q102 q3717) rfl rfl rfl (by decide +kernel) ⟨Nat.le_of_ble_eq_true rfl, Nat.le_of_ble_eq_true rfl⟩) (m_preV hG) rfl rfl hl.1 rfl (lv_room (Nat.le_of_ble_eq_true rfl)) dX4_clings_97 ⟨Nat.le_of_ble_eq_true rfl, Nat.le_of_ble_eq_true rfl⟩) hG (fun S_36 H locs hp hG => ?_)
    have hX1 := hp
    have hG : mW X mo ad S_36 s H locs := hG
    have hA1 : aOK (aSetT a (aTr a ++ [60])) := hA.t (by rw [List.length_append]; show _ + 1 ≤ 20; omega)
    have hl1 : (aTr (aSetT a (aTr a ++ [60]))).length = (aTr a).length + 1 := List.length_append
    refine lv_aload_n hx hb dX4_clings_100 rfl (lv_at hl 0 rfl) ?_
    refine lv_iload_n hx hb dX4_clings_101 rfl (lv_at hl 1 rfl) ?_
    refine lv_iconst (v := zI 2) hx hb dX4_clings_102 (by decide +kernel) ?_
    refine lv_iload_n hx hb dX4_clings_103 rfl (lv_at hl 3 rfl) ?_
    refine m_ci (va_runV (As := [.int (zI (y : Int)), .int (zI 2), .int (zI x)]) (rest := []) ⟨hx, hb, hml, hown, hts⟩ (metX4_clings_h1 (a := (aSetT a (aTr a ++ [60]))) (y := y) (k := 2) (x := x) hX1 hA1 hy9 (by omega) (by omega)) (cwV 3 hts (lw_V q3722 q3724 qs83 q102 q3725) rfl rfl rfl (by decide +kernel) ⟨Nat.le_of_ble_eq_true rfl, Nat.le_of_ble_eq_true rfl⟩) (m_preV hG) rfl rfl hl.1 rfl (lv_room (Nat.le_of_ble_eq_true rfl)) dX4_clings_104 ⟨Nat.le_of_ble_eq_true rfl, Nat.le_of_ble_eq_true rfl⟩) hG (fun r_38 S_39 H locs hp hG => ?_)
    obtain ⟨rfl, hY37⟩ := hp
    have hG : mW X mo ad S_39 s H locs := hG
    refine lv_iconst (v := zI 5) hx hb dX4_clings_107 (by decide +kernel) ?_
    refine lv_ixor hx hb dX4_clings_108 ?_
    exact m_iret hx hb hr hlocks hG (⟨by first | rfl | (unfold ptV; rfl) | (unfold wgV; rfl) | (unfold clV; rfl), hY37.ap (u := [60]) rfl⟩) ⟨Nat.le_of_ble_eq_true rfl, Nat.le_of_ble_eq_true rfl⟩ dX4_clings_109

set_option maxHeartbeats 4000000 in
theorem metX4_clings_h3 {l : Launch} {X : gX} {mo : Nat} {ad : Nat → Nat} {S : mS} {a : aS} (hX : mX S a) (hA : aOK a) {y : Nat} {k x : Int} (hy9 : y < wM (aWd a)) (hk9 : k = 0 ∨ k = 1 ∨ k = 2 ∨ k = 3 ∨ k = 4 ∨ k = 5 ∨ k = 6) (hlen : (aTr a).length + 18 ≤ 20) : Met l yX4_clings (ws_ yX4_clings cX4_clings 5 (some FieldType.int)) ({ frames := 12, cells := 0, slots := 0, locals := 277 }) (mP X mo ad S [.ref mo, .int (zI (y : Int)), .int (zI k), .int (zI x)]) (mQi X mo ad (fun u T => u = clV (y : Int) (rBy (wRk (aWd a) y) : Int) (rKind (wRk (aWd a) y) : Int) k x ∧ mX T (aSetT a (aTr a ++ clT (rKind (wRk (aWd a) y) : Int) k)))) 0 0 (mA mo ad) := by
  refine Met.m (by decide) (Nat.le_of_ble_eq_true rfl) ?_
  intro p e s m below meth c ls hx hb hr hts hown hlocks hml hG hl
  have hl : lv_has ls 5 [(0, .ref mo), (1, .int (zI (y : Int))), (2, .int (zI k)), (3, .int (zI x))] := hl
  have hMM := hA.w.m
  have hNN := hA.w.n
  refine lv_iload_n hx hb dX4_clings_0 rfl (lv_at hl 2 rfl) ?_
  rcases (show k = 0 ∨ k = 1 ∨ k = 2 ∨ k = 3 ∨ k = 4 ∨ k = 5 ∨ k = 6 by omega) with hk | hk | hk | hk | hk | hk | hk
  · refine g_look hx hb 0 (off := 35) (tgt := 36) dX4_clings_1 hk (by decide) rfl rfl (by decide) ?_
    subst hk
    refine lv_aload_n hx hb dX4_clings_36 rfl (lv_at hl 0 rfl) ?_
    refine lv_bipush (v := zI 12) hx hb dX4_clings_37 (by decide +kernel) ?_
    refine m_cv (va_runV (As := [.int (zI 12)]) (rest := []) ⟨hx, hb, hml, hown, hts⟩ (metX4_ran hX hA (by omega)) (cwV 1 hts (lw_V q3714 q3716 qs81 q102 q3717) rfl rfl rfl (by decide +kernel) ⟨Nat.le_of_ble_eq_true rfl, Nat.le_of_ble_eq_true rfl⟩) (m_preV hG) rfl rfl hl.1 rfl (lv_room (Nat.le_of_ble_eq_true rfl)) dX4_clings_39 ⟨Nat.le_of_ble_eq_true rfl, Nat.le_of_ble_eq_true rfl⟩) hG (fun S_2 H locs hp hG => ?_)
    have hX1 := hp
    have hG : mW X mo ad S_2 s H locs := hG
    have hA1 : aOK (aSetT a (aTr a ++ [12])) := hA.t (by rw [List.length_append]; show _ + 1 ≤ 20; omega)
    have hl1 : (aTr (aSetT a (aTr a ++ [12]))).length = (aTr a).length + 1 := List.length_append
    refine lv_aload_n hx hb dX4_clings_42 rfl (lv_at hl 0 rfl) ?_
    refine lv_iload_n hx hb dX4_clings_43 rfl (lv_at hl 1 rfl) ?_
    refine lv_aload_n hx hb dX4_clings_44 rfl (lv_at hl 0 rfl) ?_
    refine lv_iconst (v := zI 0) hx hb dX4_clings_45 (by decide +kernel) ?_
    refine lv_iload_n hx hb dX4_clings_46 rfl (lv_at hl 1 rfl) ?_
    refine m_ci (va_runV (As := [.int (zI 0), .int (zI (y : Int))]) (rest := [.int (zI (y : Int)), .ref mo]) ⟨hx, hb, hml, hown, hts⟩ (metX4_of 0 (m0 := y) (by omega)) (cwV 2 hts (lw_V q3467 q3469 qs47 q102 q3470) rfl rfl rfl (by decide +kernel) ⟨Nat.le_of_ble_eq_true rfl, Nat.le_of_ble_eq_true rfl⟩) (m_preV hG) rfl rfl hl.1 rfl (lv_room (Nat.le_of_ble_eq_true rfl)) dX4_clings_47 ⟨Nat.le_of_ble_eq_true rfl, Nat.le_of_ble_eq_true rfl⟩) hG (fun r_3 S_4 H locs hp hG => ?_)
    obtain ⟨rfl, rfl⟩ := hp
    have hG : mW X mo ad S_2 s H locs := hG
    refine g_topz (y := (rKind (wRk (aWd a) y) : Int)) ((congrArg (S_2.2.1 6) (by omega : 16 * 0 + y = y)).trans ((show mO S_2 (aWd a) from hX1.o).kd (m := y) (by omega))) ?_
    have hv1 := hA.w.rk (m := y) (by omega)
    refine lv_iload_n hx hb dX4_clings_50 rfl (lv_at hl 3 rfl) ?_
    refine m_ci (va_runV (As := [.int (zI (y : Int)), .int (zI (rKind (wRk (aWd a) y) : Int)), .int (zI x)]) (rest := []) ⟨hx, hb, hml, hown, hts⟩ (metX4_weighs_h3 (a := (aSetT a (aTr a ++ [12]))) (y := y) (k := (rKind (wRk (aWd a) y) : Int)) (x := x) hX1 hA1 hy9 (by omega) (by omega)) (cwV 3 hts (lw_V q3718 q3720 qs82 q102 q3721) rfl rfl rfl (by decide +kernel) ⟨Nat.le_of_ble_eq_true rfl, Nat.le_of_ble_eq_true rfl⟩) (m_preV hG) rfl rfl hl.1 rfl (lv_room (Nat.le_of_ble_eq_true rfl)) dX4_clings_51 ⟨Nat.le_of_ble_eq_true rfl, Nat.le_of_ble_eq_true rfl⟩) hG (fun r_6 S_7 H locs hp hG => ?_)
    obtain ⟨rfl, hY5⟩ := hp
    have hG : mW X mo ad S_7 s H locs := hG
    have hwl := wgT_l (rKind (wRk (aWd a) y) : Int) (rKind (wRk (aWd a) y) : Int)
    have hX2 : mX S_7 (aSetT a (aTr a ++ [12] ++ wgT (rKind (wRk (aWd a) y) : Int) (rKind (wRk (aWd a) y) : Int))) := hY5
    have hlA : (aTr (aSetT a (aTr a ++ [12] ++ wgT (rKind (wRk (aWd a) y) : Int) (rKind (wRk (aWd a) y) : Int)))).length = (aTr a).length + 1 + (wgT (rKind (wRk (aWd a) y) : Int) (rKind (wRk (aWd a) y) : Int)).length := by show (aTr a ++ [12] ++ wgT (rKind (wRk (aWd a) y) : Int) (rKind (wRk (aWd a) y) : Int)).length = _; rw [List.length_append, List.length_append]; rfl
    have hA2 : aOK (aSetT a (aTr a ++ [12] ++ wgT (rKind (wRk (aWd a) y) : Int) (rKind (wRk (aWd a) y) : Int))) := hA.t (by show (aTr (aSetT a (aTr a ++ [12] ++ wgT (rKind (wRk (aWd a) y) : Int) (rKind (wRk (aWd a) y) : Int)))).length ≤ 20; omega)
    refine lv_istore (lv' := [(4, .int (zI (wgV (y : Int) (rBy (wRk (aWd a) y) : Int) (rKind (wRk (aWd a) y) : Int) (rKind (wRk (aWd a) y) : Int) x))), (0, .ref mo), (1, .int (zI (y : Int))), (2, .int (zI 0)), (3, .int (zI x))]) hx hb dX4_clings_54 hl (by decide) rfl (fun ls hl => ?_)
    refine lv_iload hx hb dX4_clings_56 (lv_at hl 0 rfl) ?_
    refine lv_aload_n hx hb dX4_clings_58 rfl (lv_at hl 1 rfl) ?_
    refine lv_iload_n hx hb dX4_clings_59 rfl (lv_at hl 2 rfl) ?_
    refine lv_aload_n hx hb dX4_clings_60 rfl (lv_at hl 1 rfl) ?_
    refine lv_iconst (v := zI 0) hx hb dX4_clings_61 (by decide +kernel) ?_
    refine lv_iload_n hx hb dX4_clings_62 rfl (lv_at hl 2 rfl) ?_
    refine m_ci (va_runV (As := [.int (zI 0), .int (zI (y : Int))]) (rest := [.int (zI (y : Int)), .ref mo, .int (zI (wgV (y : Int) (rBy (wRk (aWd a) y) : Int) (rKind (wRk (aWd a) y) : Int) (rKind (wRk (aWd a) y) : Int) x))]) ⟨hx, hb, hml, hown, hts⟩ (metX4_of 0 (m0 := y) (by omega)) (cwV 2 hts (lw_V q3467 q3469 qs47 q102 q3470) rfl rfl rfl (by decide +kernel) ⟨Nat.le_of_ble_eq_true rfl, Nat.le_of_ble_eq_true rfl⟩) (m_preV hG) rfl rfl hl.1 rfl (lv_room (Nat.le_of_ble_eq_true rfl)) dX4_clings_63 ⟨Nat.le_of_ble_eq_true rfl, Nat.le_of_ble_eq_true rfl⟩) hG (fun r_8 S_9 H locs hp hG => ?_)
    obtain ⟨rfl, rfl⟩ := hp
    have hG : mW X mo ad S_7 s H locs := hG
    refine g_topz (y := (rKind (wRk (aWd a) y) : Int)) ((congrArg (S_7.2.1 6) (by omega : 16 * 0 + y = y)).trans ((show mO S_7 (aWd a) from hY5.o).kd (m := y) (by omega))) ?_
    have hv2 := hA.w.rk (m := y) (by omega)
    refine lv_iload_n hx hb dX4_clings_66 rfl (lv_at hl 4 rfl) ?_
    refine lv_aload_n hx hb dX4_clings_67 rfl (lv_at hl 1 rfl) ?_
    refine lv_iconst (v := zI 1) hx hb dX4_clings_68 (by decide +kernel) ?_
    refine lv_iload_n hx hb dX4_clings_69 rfl (lv_at hl 2 rfl) ?_
    refine m_ci (va_runV (As := [.int (zI 1), .int (zI (y : Int))]) (rest := [.int (zI x), .int (zI (rKind (wRk (aWd a) y) : Int)), .int (zI (y : Int)), .ref mo, .int (zI (wgV (y : Int) (rBy (wRk (aWd a) y) : Int) (rKind (wRk (aWd a) y) : Int) (rKind (wRk (aWd a) y) : Int) x))]) ⟨hx, hb, hml, hown, hts⟩ (metX4_of 1 (m0 := y) (by omega)) (cwV 2 hts (lw_V q3467 q3469 qs47 q102 q3470) rfl rfl rfl (by decide +kernel) ⟨Nat.le_of_ble_eq_true rfl, Nat.le_of_ble_eq_true rfl⟩) (m_preV hG) rfl rfl hl.1 rfl (lv_room (Nat.le_of_ble_eq_true rfl)) dX4_clings_70 ⟨Nat.le_of_ble_eq_true rfl, Nat.le_of_ble_eq_true rfl⟩) hG (fun r_10 S_11 H locs hp hG => ?_)
    obtain ⟨rfl, rfl⟩ := hp
    have hG : mW X mo ad S_7 s H locs := hG
    refine g_topz (y := (rBy (wRk (aWd a) y) : Int)) ((show mO S_7 (aWd a) from hY5.o).by (m := y) (by omega)) ?_
    have hv3 := hA.w.rk (m := y) (by omega)
    refine g_isub hx hb dX4_clings_73 ?_
    refine m_ci (va_runV (As := [.int (zI (y : Int)), .int (zI (rKind (wRk (aWd a) y) : Int)), .int (zI (x - (rBy (wRk (aWd a) y) : Int)))]) (rest := [.int (zI (wgV (y : Int) (rBy (wRk (aWd a) y) : Int) (rKind (wRk (aWd a) y) : Int) (rKind (wRk (aWd a) y) : Int) x))]) ⟨hx, hb, hml, hown, hts⟩ (metX4_points_h3 (a := (aSetT a (aTr a ++ [12] ++ wgT (rKind (wRk (aWd a) y) : Int) (rKind (wRk (aWd a) y) : Int)))) (y := y) (k := (rKind (wRk (aWd a) y) : Int)) (x := (x - (rBy (wRk (aWd a) y) : Int))) hX2 hA2 hy9 (by omega) (by omega)) (cwV 3 hts (lw_V q3710 q3712 qs80 q102 q3713) rfl rfl rfl (by decide +kernel) ⟨Nat.le_of_ble_eq_true rfl, Nat.le_of_ble_eq_true rfl⟩) (m_preV hG) rfl rfl hl.1 rfl (lv_room (Nat.le_of_ble_eq_true rfl)) dX4_clings_74 ⟨Nat.le_of_ble_eq_true rfl, Nat.le_of_ble_eq_true rfl⟩) hG (fun r_13 S_14 H locs hp hG => ?_)
    obtain ⟨rfl, hY12⟩ := hp
    have hG : mW X mo ad S_14 s H locs := hG
    refine lv_ixor hx hb dX4_clings_77 ?_
    exact m_iret hx hb hr hlocks hG (⟨by unfold clV; rfl, mX_cl hY12⟩) ⟨Nat.le_of_ble_eq_true rfl, Nat.le_of_ble_eq_true rfl⟩ dX4_clings_78
  · refine g_look hx hb 1 (off := 109) (tgt := 110) dX4_clings_1 hk (by decide) rfl rfl (by decide) ?_
    subst hk
    refine lv_aload_n hx hb dX4_clings_110 rfl (lv_at hl 0 rfl) ?_
    refine lv_iload_n hx hb dX4_clings_111 rfl (lv_at hl 1 rfl) ?_
    refine lv_iload_n hx hb dX4_clings_112 rfl (lv_at hl 2 rfl) ?_
    refine m_ci (va_runS (As := [.int (zI 1)]) (rest := [.int (zI (y : Int)), .ref mo]) ⟨hx, hb, hml, hown, hts⟩ (metX4_above (by omega)) (va_cwS 1 hts (lw_S q3474 q3475 q102 q3476) rfl rfl rfl (by decide +kernel) ⟨Nat.le_of_ble_eq_true rfl, Nat.le_of_ble_eq_true rfl⟩) (m_preS hG) rfl rfl hl.1 rfl (lv_room (Nat.le_of_ble_eq_true rfl)) dX4_clings_113 ⟨Nat.le_of_ble_eq_true rfl, Nat.le_of_ble_eq_true rfl⟩) hG (fun r_15 S_16 H locs hp hG => ?_)
    obtain ⟨rfl, rfl⟩ := hp
    have hG : mW X mo ad S s H locs := hG
    refine g_topz (y := 0) (by decide) ?_
    refine lv_iload_n hx hb dX4_clings_116 rfl (lv_at hl 3 rfl) ?_
    refine m_ci (va_runV (As := [.int (zI (y : Int)), .int (zI 0), .int (zI x)]) (rest := []) ⟨hx, hb, hml, hown, hts⟩ (metX4_clings_h2 (a := a) (y := y) (k := 0) (x := x) hX hA hy9 (by omega) (by omega)) (cwV 3 hts (lw_V q3722 q3724 qs83 q102 q3725) rfl rfl rfl (by decide +kernel) ⟨Nat.le_of_ble_eq_true rfl, Nat.le_of_ble_eq_true rfl⟩) (m_preV hG) rfl rfl hl.1 rfl (lv_room (Nat.le_of_ble_eq_true rfl)) dX4_clings_117 ⟨Nat.le_of_ble_eq_true rfl, Nat.le_of_ble_eq_true rfl⟩) hG (fun r_18 S_19 H locs hp hG => ?_)
    obtain ⟨rfl, hY17⟩ := hp
    have hG : mW X mo ad S_19 s H locs := hG
    exact m_iret hx hb hr hlocks hG (⟨by first | rfl | (unfold ptV; rfl) | (unfold wgV; rfl) | (unfold clV; rfl), hY17⟩) ⟨Nat.le_of_ble_eq_true rfl, Nat.le_of_ble_eq_true rfl⟩ dX4_clings_120
  · refine g_look hx hb 2 (off := 109) (tgt := 110) dX4_clings_1 hk (by decide) rfl rfl (by decide) ?_
    subst hk
    refine lv_aload_n hx hb dX4_clings_110 rfl (lv_at hl 0 rfl) ?_
    refine lv_iload_n hx hb dX4_clings_111 rfl (lv_at hl 1 rfl) ?_
    refine lv_iload_n hx hb dX4_clings_112 rfl (lv_at hl 2 rfl) ?_
    refine m_ci (va_runS (As := [.int (zI 2)]) (rest := [.int (zI (y : Int)), .ref mo]) ⟨hx, hb, hml, hown, hts⟩ (metX4_above (by omega)) (va_cwS 1 hts (lw_S q3474 q3475 q102 q3476) rfl rfl rfl (by decide +kernel) ⟨Nat.le_of_ble_eq_true rfl, Nat.le_of_ble_eq_true rfl⟩) (m_preS hG) rfl rfl hl.1 rfl (lv_room (Nat.le_of_ble_eq_true rfl)) dX4_clings_113 ⟨Nat.le_of_ble_eq_true rfl, Nat.le_of_ble_eq_true rfl⟩) hG (fun r_20 S_21 H locs hp hG => ?_)
    obtain ⟨rfl, rfl⟩ := hp
    have hG : mW X mo ad S s H locs := hG
    refine g_topz (y := 0) (by decide) ?_
    refine lv_iload_n hx hb dX4_clings_116 rfl (lv_at hl 3 rfl) ?_
    refine m_ci (va_runV (As := [.int (zI (y : Int)), .int (zI 0), .int (zI x)]) (rest := []) ⟨hx, hb, hml, hown, hts⟩ (metX4_clings_h2 (a := a) (y := y) (k := 0) (x := x) hX hA hy9 (by omega) (by omega)) (cwV 3 hts (lw_V q3722 q3724 qs83 q102 q3725) rfl rfl rfl (by decide +kernel) ⟨Nat.le_of_ble_eq_true rfl, Nat.le_of_ble_eq_true rfl⟩) (m_preV hG) rfl rfl hl.1 rfl (lv_room (Nat.le_of_ble_eq_true rfl)) dX4_clings_117 ⟨Nat.le_of_ble_eq_true rfl, Nat.le_of_ble_eq_true rfl⟩) hG (fun r_23 S_24 H locs hp hG => ?_)
    obtain ⟨rfl, hY22⟩ := hp
    have hG : mW X mo ad S_24 s H locs := hG
    exact m_iret hx hb hr hlocks hG (⟨by first | rfl | (unfold ptV; rfl) | (unfold wgV; rfl) | (unfold clV; rfl), hY22⟩) ⟨Nat.le_of_ble_eq_true rfl, Nat.le_of_ble_eq_true rfl⟩ dX4_clings_120
  · refine g_look hx hb 3 (off := 109) (tgt := 110) dX4_clings_1 hk (by decide) rfl rfl (by decide) ?_
    subst hk
    refine lv_aload_n hx hb dX4_clings_110 rfl (lv_at hl 0 rfl) ?_
    refine lv_iload_n hx hb dX4_clings_111 rfl (lv_at hl 1 rfl) ?_
    refine lv_iload_n hx hb dX4_clings_112 rfl (lv_at hl 2 rfl) ?_
    refine m_ci (va_runS (As := [.int (zI 3)]) (rest := [.int (zI (y : Int)), .ref mo]) ⟨hx, hb, hml, hown, hts⟩ (metX4_above (by omega)) (va_cwS 1 hts (lw_S q3474 q3475 q102 q3476) rfl rfl rfl (by decide +kernel) ⟨Nat.le_of_ble_eq_true rfl, Nat.le_of_ble_eq_true rfl⟩) (m_preS hG) rfl rfl hl.1 rfl (lv_room (Nat.le_of_ble_eq_true rfl)) dX4_clings_113 ⟨Nat.le_of_ble_eq_true rfl, Nat.le_of_ble_eq_true rfl⟩) hG (fun r_25 S_26 H locs hp hG => ?_)
    obtain ⟨rfl, rfl⟩ := hp
    have hG : mW X mo ad S s H locs := hG
    refine g_topz (y := 1) (by decide) ?_
    refine lv_iload_n hx hb dX4_clings_116 rfl (lv_at hl 3 rfl) ?_
    refine m_ci (va_runV (As := [.int (zI (y : Int)), .int (zI 1), .int (zI x)]) (rest := []) ⟨hx, hb, hml, hown, hts⟩ (metX4_clings_h2 (a := a) (y := y) (k := 1) (x := x) hX hA hy9 (by omega) (by omega)) (cwV 3 hts (lw_V q3722 q3724 qs83 q102 q3725) rfl rfl rfl (by decide +kernel) ⟨Nat.le_of_ble_eq_true rfl, Nat.le_of_ble_eq_true rfl⟩) (m_preV hG) rfl rfl hl.1 rfl (lv_room (Nat.le_of_ble_eq_true rfl)) dX4_clings_117 ⟨Nat.le_of_ble_eq_true rfl, Nat.le_of_ble_eq_true rfl⟩) hG (fun r_28 S_29 H locs hp hG => ?_)
    obtain ⟨rfl, hY27⟩ := hp
    have hG : mW X mo ad S_29 s H locs := hG
    exact m_iret hx hb hr hlocks hG (⟨by first | rfl | (unfold ptV; rfl) | (unfold wgV; rfl) | (unfold clV; rfl), hY27⟩) ⟨Nat.le_of_ble_eq_true rfl, Nat.le_of_ble_eq_true rfl⟩ dX4_clings_120
  · refine g_look hx hb 4 (off := 78) (tgt := 79) dX4_clings_1 hk (by decide) rfl rfl (by decide) ?_
    subst hk
    refine lv_aload_n hx hb dX4_clings_79 rfl (lv_at hl 0 rfl) ?_
    refine lv_bipush (v := zI 50) hx hb dX4_clings_80 (by decide +kernel) ?_
    refine m_cv (va_runV (As := [.int (zI 50)]) (rest := []) ⟨hx, hb, hml, hown, hts⟩ (metX4_ran hX hA (by omega)) (cwV 1 hts (lw_V q3714 q3716 qs81 q102 q3717) rfl rfl rfl (by decide +kernel) ⟨Nat.le_of_ble_eq_true rfl, Nat.le_of_ble_eq_true rfl⟩) (m_preV hG) rfl rfl hl.1 rfl (lv_room (Nat.le_of_ble_eq_true rfl)) dX4_clings_82 ⟨Nat.le_of_ble_eq_true rfl, Nat.le_of_ble_eq_true rfl⟩) hG (fun S_31 H locs hp hG => ?_)
    have hX1 := hp
    have hG : mW X mo ad S_31 s H locs := hG
    have hA1 : aOK (aSetT a (aTr a ++ [50])) := hA.t (by rw [List.length_append]; show _ + 1 ≤ 20; omega)
    have hl1 : (aTr (aSetT a (aTr a ++ [50]))).length = (aTr a).length + 1 := List.length_append
    refine lv_aload_n hx hb dX4_clings_85 rfl (lv_at hl 0 rfl) ?_
    refine lv_iload_n hx hb dX4_clings_86 rfl (lv_at hl 1 rfl) ?_
    refine lv_iconst (v := zI 0) hx hb dX4_clings_87 (by decide +kernel) ?_
    refine lv_iload_n hx hb dX4_clings_88 rfl (lv_at hl 3 rfl) ?_
    refine m_ci (va_runV (As := [.int (zI (y : Int)), .int (zI 0), .int (zI x)]) (rest := []) ⟨hx, hb, hml, hown, hts⟩ (metX4_clings_h2 (a := (aSetT a (aTr a ++ [50]))) (y := y) (k := 0) (x := x) hX1 hA1 hy9 (by omega) (by omega)) (cwV 3 hts (lw_V q3722 q3724 qs83 q102 q3725) rfl rfl rfl (by decide +kernel) ⟨Nat.le_of_ble_eq_true rfl, Nat.le_of_ble_eq_true rfl⟩) (m_preV hG) rfl rfl hl.1 rfl (lv_room (Nat.le_of_ble_eq_true rfl)) dX4_clings_89 ⟨Nat.le_of_ble_eq_true rfl, Nat.le_of_ble_eq_true rfl⟩) hG (fun r_33 S_34 H locs hp hG => ?_)
    obtain ⟨rfl, hY32⟩ := hp
    have hG : mW X mo ad S_34 s H locs := hG
    refine lv_ineg hx hb dX4_clings_92 ?_
    exact m_iret hx hb hr hlocks hG (⟨by first | rfl | (unfold ptV; rfl) | (unfold wgV; rfl) | (unfold clV; rfl), hY32.ap (u := [50]) rfl⟩) ⟨Nat.le_of_ble_eq_true rfl, Nat.le_of_ble_eq_true rfl⟩ dX4_clings_93
  · refine g_look hx hb 5 (off := 93) (tgt := 94) dX4_clings_1 hk (by decide) rfl rfl (by decide) ?_
    subst hk
    refine lv_aload_n hx hb dX4_clings_94 rfl (lv_at hl 0 rfl) ?_
    refine lv_bipush (v := zI 60) hx hb dX4_clings_95 (by decide +kernel) ?_
    refine m_cv (va_runV (As := [.int (zI 60)]) (rest := []) ⟨hx, hb, hml, hown, hts⟩ (metX4_ran hX hA (by omega)) (cwV 1 hts (lw_V q3714 q3716 qs81 q102 q3717) rfl rfl rfl (by decide +kernel) ⟨Nat.le_of_ble_eq_true rfl, Nat.le_of_ble_eq_true rfl⟩) (m_preV hG) rfl rfl hl.1 rfl (lv_room (Nat.le_of_ble_eq_true rfl)) dX4_clings_97 ⟨Nat.le_of_ble_eq_true rfl, Nat.le_of_ble_eq_true rfl⟩) hG (fun S_36 H locs hp hG => ?_)
    have hX1 := hp
    have hG : mW X mo ad S_36 s H locs := hG
    have hA1 : aOK (aSetT a (aTr a ++ [60])) := hA.t (by rw [List.length_append]; show _ + 1 ≤ 20; omega)
    have hl1 : (aTr (aSetT a (aTr a ++ [60]))).length = (aTr a).length + 1 := List.length_append
    refine lv_aload_n hx hb dX4_clings_100 rfl (lv_at hl 0 rfl) ?_
    refine lv_iload_n hx hb dX4_clings_101 rfl (lv_at hl 1 rfl) ?_
    refine lv_iconst (v := zI 2) hx hb dX4_clings_102 (by decide +kernel) ?_
    refine lv_iload_n hx hb dX4_clings_103 rfl (lv_at hl 3 rfl) ?_
    refine m_ci (va_runV (As := [.int (zI (y : Int)), .int (zI 2), .int (zI x)]) (rest := []) ⟨hx, hb, hml, hown, hts⟩ (metX4_clings_h2 (a := (aSetT a (aTr a ++ [60]))) (y := y) (k := 2) (x := x) hX1 hA1 hy9 (by omega) (by omega)) (cwV 3 hts (lw_V q3722 q3724 qs83 q102 q3725) rfl rfl rfl (by decide +kernel) ⟨Nat.le_of_ble_eq_true rfl, Nat.le_of_ble_eq_true rfl⟩) (m_preV hG) rfl rfl hl.1 rfl (lv_room (Nat.le_of_ble_eq_true rfl)) dX4_clings_104 ⟨Nat.le_of_ble_eq_true rfl, Nat.le_of_ble_eq_true rfl⟩) hG (fun r_38 S_39 H locs hp hG => ?_)
    obtain ⟨rfl, hY37⟩ := hp
    have hG : mW X mo ad S_39 s H locs := hG
    refine lv_iconst (v := zI 5) hx hb dX4_clings_107 (by decide +kernel) ?_
    refine lv_ixor hx hb dX4_clings_108 ?_
    exact m_iret hx hb hr hlocks hG (⟨by first | rfl | (unfold ptV; rfl) | (unfold wgV; rfl) | (unfold clV; rfl), hY37.ap (u := [60]) rfl⟩) ⟨Nat.le_of_ble_eq_true rfl, Nat.le_of_ble_eq_true rfl⟩ dX4_clings_109
  · refine g_look hx hb 6 (off := 109) (tgt := 110) dX4_clings_1 hk (by decide) rfl rfl (by decide) ?_
    subst hk
    refine lv_aload_n hx hb dX4_clings_110 rfl (lv_at hl 0 rfl) ?_
    refine lv_iload_n hx hb dX4_clings_111 rfl (lv_at hl 1 rfl) ?_
    refine lv_iload_n hx hb dX4_clings_112 rfl (lv_at hl 2 rfl) ?_
    refine m_ci (va_runS (As := [.int (zI 6)]) (rest := [.int (zI (y : Int)), .ref mo]) ⟨hx, hb, hml, hown, hts⟩ (metX4_above (by omega)) (va_cwS 1 hts (lw_S q3474 q3475 q102 q3476) rfl rfl rfl (by decide +kernel) ⟨Nat.le_of_ble_eq_true rfl, Nat.le_of_ble_eq_true rfl⟩) (m_preS hG) rfl rfl hl.1 rfl (lv_room (Nat.le_of_ble_eq_true rfl)) dX4_clings_113 ⟨Nat.le_of_ble_eq_true rfl, Nat.le_of_ble_eq_true rfl⟩) hG (fun r_40 S_41 H locs hp hG => ?_)
    obtain ⟨rfl, rfl⟩ := hp
    have hG : mW X mo ad S s H locs := hG
    refine g_topz (y := 3) (by decide) ?_
    refine lv_iload_n hx hb dX4_clings_116 rfl (lv_at hl 3 rfl) ?_
    refine m_ci (va_runV (As := [.int (zI (y : Int)), .int (zI 3), .int (zI x)]) (rest := []) ⟨hx, hb, hml, hown, hts⟩ (metX4_clings_h2 (a := a) (y := y) (k := 3) (x := x) hX hA hy9 (by omega) (by omega)) (cwV 3 hts (lw_V q3722 q3724 qs83 q102 q3725) rfl rfl rfl (by decide +kernel) ⟨Nat.le_of_ble_eq_true rfl, Nat.le_of_ble_eq_true rfl⟩) (m_preV hG) rfl rfl hl.1 rfl (lv_room (Nat.le_of_ble_eq_true rfl)) dX4_clings_117 ⟨Nat.le_of_ble_eq_true rfl, Nat.le_of_ble_eq_true rfl⟩) hG (fun r_43 S_44 H locs hp hG => ?_)
    obtain ⟨rfl, hY42⟩ := hp
    have hG : mW X mo ad S_44 s H locs := hG
    exact m_iret hx hb hr hlocks hG (⟨by first | rfl | (unfold ptV; rfl) | (unfold wgV; rfl) | (unfold clV; rfl), hY42⟩) ⟨Nat.le_of_ble_eq_true rfl, Nat.le_of_ble_eq_true rfl⟩ dX4_clings_120

set_option maxHeartbeats 4000000 in
theorem metX4_act {l : Launch} {X : gX} {mo : Nat} {ad : Nat → Nat} {S : mS} {a : aS} (hX : mX S a) (hA : aOK a) {y move x : Int} (hr0 : -2147483648 ≤ y ∧ y < 2147483648 ∧ -2147483648 ≤ move ∧ move < 2147483648 ∧ -2147483648 ≤ x ∧ x < 2147483648) : Met l yX4_act (ws_ yX4_act cX4_act 5 (some FieldType.int)) ({ frames := 13, cells := 0, slots := 0, locals := 301 }) (mP X mo ad S [.ref mo, .int (zI y), .int (zI move), .int (zI x)]) (mQi X mo ad (fun u T => u = (opAct a y move x).1 ∧ mX T (opAct a y move x).2)) 0 0 (mA mo ad) := by
  refine Met.m (by decide) (Nat.le_of_ble_eq_true rfl) ?_
  intro p e s m below meth c ls hx hb hr hts hown hlocks hml hG hl
  have hl : lv_has ls 5 [(0, .ref mo), (1, .int (zI y)), (2, .int (zI move)), (3, .int (zI x))] := hl
  have hNN := hA.w.n
  have hMM := hA.w.m
  refine lv_aload_n hx hb dX4_act_0 rfl (lv_at hl 0 rfl) ?_
  refine lv_iconst (v := zI 0) hx hb dX4_act_1 (by decide +kernel) ?_
  refine m_put 13 (by decide) rfl rfl (tyX4_ok 13 (by decide)) rfl rfl hx hb hts hown hG (hts _ q3309) dX4_act_2 (fun H locs (hG : mW X mo ad (sI S 13 0) s H locs) => ?_)
  have hX0 : mX (sI S 13 0) (aSetT a []) := hX.ran (fun k hk q => sI_n q) (fun k hk q => rfl) rfl ⟨rfl, fun i hi => by (have hi : i < 0 := hi); omega⟩
  have hA0 : aOK (aSetT a []) := hA.t (Nat.zero_le _)
  refine lv_aload_n hx hb dX4_act_5 rfl (lv_at hl 0 rfl) ?_
  refine lv_iload_n hx hb dX4_act_6 rfl (lv_at hl 1 rfl) ?_
  have hq1 := (show mO (sI S 13 0) (aWd a) from hX0.o).m
  have hQ1 := hA.w.m
  refine m_ci (va_runV (As := [.int (zI y)]) (rest := []) ⟨hx, hb, hml, hown, hts⟩ (metX4_isRemark (by omega) (by omega)) (cwV 1 hts (lw_V q3455 q3457 qs46 q102 q3458) rfl rfl rfl (by decide +kernel) ⟨Nat.le_of_ble_eq_true rfl, Nat.le_of_ble_eq_true rfl⟩) (m_preV hG) rfl rfl hl.1 rfl (lv_room (Nat.le_of_ble_eq_true rfl)) dX4_act_7 ⟨Nat.le_of_ble_eq_true rfl, Nat.le_of_ble_eq_true rfl⟩) hG (fun r_1 S_2 H locs hp hG => ?_)
  obtain ⟨b1, rfl, hb1, rfl⟩ := hp
  have hG : mW X mo ad (sI S 13 0) s H locs := hG
  refine g_eq (tgt := 22) hx hb dX4_act_10 (by decide) (by omega) (fun h2 => ?_) (fun h2 => ?_)
  · refine lv_iconst (v := zI 0) hx hb dX4_act_22 (by decide +kernel) ?_
    exact m_iret hx hb hr hlocks hG (by rw [show opAct a y move x = (0, aSetT a []) from (by unfold opAct; all_goals ((repeat (first | rw [if_pos (by omega)] | rw [if_neg (by omega)])) <;> rfl))]; exact ⟨rfl, hX0⟩) ⟨Nat.le_of_ble_eq_true rfl, Nat.le_of_ble_eq_true rfl⟩ dX4_act_23
  · refine lv_iload_n hx hb dX4_act_13 rfl (lv_at hl 2 rfl) ?_
    refine lv_iconst (v := zI 0) hx hb dX4_act_14 (by decide +kernel) ?_
    refine lv_iconst (v := zI 2) hx hb dX4_act_15 (by decide +kernel) ?_
    refine m_ci (va_runS (As := [.int (zI move), .int (zI 0), .int (zI 2)]) (rest := []) ⟨hx, hb, hml, hown, hts⟩ (metX4_within (by omega)) (va_cwS 3 hts (lw_S q3424 q3425 q102 q3426) rfl rfl rfl (by decide +kernel) ⟨Nat.le_of_ble_eq_true rfl, Nat.le_of_ble_eq_true rfl⟩) (m_preS hG) rfl rfl hl.1 rfl (lv_room (Nat.le_of_ble_eq_true rfl)) dX4_act_16 ⟨Nat.le_of_ble_eq_true rfl, Nat.le_of_ble_eq_true rfl⟩) hG (fun r_3 S_4 H locs hp hG => ?_)
    obtain ⟨bw3, rfl, hbw3, rfl⟩ := hp
    have hG : mW X mo ad (sI S 13 0) s H locs := hG
    refine g_ne (tgt := 24) hx hb dX4_act_19 (by decide) (by omega) (fun h4 => ?_) (fun h4 => ?_)
    · obtain ⟨y1, rfl⟩ : ∃ n9 : Nat, y = n9 := ⟨y.toNat, by omega⟩
      refine lv_aload_n hx hb dX4_act_24 rfl (lv_at hl 0 rfl) ?_
      refine lv_iconst (v := zI 0) hx hb dX4_act_25 (by decide +kernel) ?_
      refine lv_iload_n hx hb dX4_act_26 rfl (lv_at hl 1 rfl) ?_
      refine m_ci (va_runV (As := [.int (zI 0), .int (zI (y1 : Int))]) (rest := []) ⟨hx, hb, hml, hown, hts⟩ (metX4_of 0 (m0 := y1) (by omega)) (cwV 2 hts (lw_V q3467 q3469 qs47 q102 q3470) rfl rfl rfl (by decide +kernel) ⟨Nat.le_of_ble_eq_true rfl, Nat.le_of_ble_eq_true rfl⟩) (m_preV hG) rfl rfl hl.1 rfl (lv_room (Nat.le_of_ble_eq_true rfl)) dX4_act_27 ⟨Nat.le_of_ble_eq_true rfl, Nat.le_of_ble_eq_true rfl⟩) hG (fun r_5 S_6 H locs hp hG => ?_)
      obtain ⟨rfl, rfl⟩ := hp
      have hG : mW X mo ad (sI S 13 0) s H locs := hG
      refine g_topz (y := (rKind (wRk (aWd a) y1) : Int)) ((congrArg ((sI S 13 0).2.1 6) (by omega : 16 * 0 + y1 = y1)).trans ((show mO (sI S 13 0) (aWd a) from hX0.o).kd (m := y1) (by omega))) ?_
      have hv5 := hA.w.rk (m := y1) (by omega)
      refine lv_istore (lv' := [(4, .int (zI (rKind (wRk (aWd a) y1) : Int))), (0, .ref mo), (1, .int (zI (y1 : Int))), (2, .int (zI move)), (3, .int (zI x))]) hx hb dX4_act_30 hl (by decide) rfl (fun ls hl => ?_)
      refine lv_iload_n hx hb dX4_act_32 rfl (lv_at hl 3 rfl) ?_
      refine g_ne (tgt := 47) hx hb dX4_act_33 (by decide) (by omega) (fun h7 => ?_) (fun h7 => ?_)
      · refine lv_iload_n hx hb dX4_act_47 rfl (lv_at hl 3 rfl) ?_
        refine lv_iconst (v := zI 1) hx hb dX4_act_48 (by decide +kernel) ?_
        refine g_cne (tgt := 63) hx hb dX4_act_49 (by decide) (by omega) (fun h8 => ?_) (fun h8 => ?_)
        · refine lv_aload_n hx hb dX4_act_63 rfl (lv_at hl 1 rfl) ?_
          refine lv_iload_n hx hb dX4_act_64 rfl (lv_at hl 2 rfl) ?_
          refine lv_iload hx hb dX4_act_65 (lv_at hl 0 rfl) ?_
          refine lv_iload_n hx hb dX4_act_67 rfl (lv_at hl 4 rfl) ?_
          refine m_ci (va_runV (As := [.int (zI (y1 : Int)), .int (zI (rKind (wRk (aWd a) y1) : Int)), .int (zI x)]) (rest := []) ⟨hx, hb, hml, hown, hts⟩ (metX4_clings_h3 (a := aSetT a []) (y := y1) (k := (rKind (wRk (aWd a) y1) : Int)) (x := x) hX0 hA0 (show y1 < wM (aWd a) by omega) (by omega) (by show 0 + _ ≤ 20; decide)) (cwV 3 hts (lw_V q3722 q3724 qs83 q102 q3725) rfl rfl rfl (by decide +kernel) ⟨Nat.le_of_ble_eq_true rfl, Nat.le_of_ble_eq_true rfl⟩) (m_preV hG) rfl rfl hl.1 rfl (lv_room (Nat.le_of_ble_eq_true rfl)) dX4_act_68 ⟨Nat.le_of_ble_eq_true rfl, Nat.le_of_ble_eq_true rfl⟩) hG (fun r_7 S_8 H locs hp hG => ?_)
          obtain ⟨rfl, hY⟩ := hp
          have hG : mW X mo ad S_8 s H locs := hG
          exact m_iret hx hb hr hlocks hG (by unfold opAct; (repeat (first | rw [if_pos (by omega)] | rw [if_neg (by omega)])); exact ⟨rfl, hY⟩) ⟨Nat.le_of_ble_eq_true rfl, Nat.le_of_ble_eq_true rfl⟩ dX4_act_71
        · refine lv_aload_n hx hb dX4_act_52 rfl (lv_at hl 1 rfl) ?_
          refine lv_iload_n hx hb dX4_act_53 rfl (lv_at hl 2 rfl) ?_
          refine lv_iload hx hb dX4_act_54 (lv_at hl 0 rfl) ?_
          refine lv_iload_n hx hb dX4_act_56 rfl (lv_at hl 4 rfl) ?_
          refine m_ci (va_runV (As := [.int (zI (y1 : Int)), .int (zI (rKind (wRk (aWd a) y1) : Int)), .int (zI x)]) (rest := []) ⟨hx, hb, hml, hown, hts⟩ (metX4_weighs_h3 (a := aSetT a []) (y := y1) (k := (rKind (wRk (aWd a) y1) : Int)) (x := x) hX0 hA0 (show y1 < wM (aWd a) by omega) (by omega) (by show 0 + _ ≤ 20; decide)) (cwV 3 hts (lw_V q3718 q3720 qs82 q102 q3721) rfl rfl rfl (by decide +kernel) ⟨Nat.le_of_ble_eq_true rfl, Nat.le_of_ble_eq_true rfl⟩) (m_preV hG) rfl rfl hl.1 rfl (lv_room (Nat.le_of_ble_eq_true rfl)) dX4_act_57 ⟨Nat.le_of_ble_eq_true rfl, Nat.le_of_ble_eq_true rfl⟩) hG (fun r_9 S_10 H locs hp hG => ?_)
          obtain ⟨rfl, hY⟩ := hp
          have hG : mW X mo ad S_10 s H locs := hG
          refine lv_goto (tgt := 71) hx hb dX4_act_60 (by decide) ?_
          exact m_iret hx hb hr hlocks hG (by unfold opAct; (repeat (first | rw [if_pos (by omega)] | rw [if_neg (by omega)])); exact ⟨rfl, hY⟩) ⟨Nat.le_of_ble_eq_true rfl, Nat.le_of_ble_eq_true rfl⟩ dX4_act_71
      · refine lv_aload_n hx hb dX4_act_36 rfl (lv_at hl 1 rfl) ?_
        refine lv_iload_n hx hb dX4_act_37 rfl (lv_at hl 2 rfl) ?_
        refine lv_iload hx hb dX4_act_38 (lv_at hl 0 rfl) ?_
        refine lv_iload_n hx hb dX4_act_40 rfl (lv_at hl 4 rfl) ?_
        refine m_ci (va_runV (As := [.int (zI (y1 : Int)), .int (zI (rKind (wRk (aWd a) y1) : Int)), .int (zI x)]) (rest := []) ⟨hx, hb, hml, hown, hts⟩ (metX4_points_h3 (a := aSetT a []) (y := y1) (k := (rKind (wRk (aWd a) y1) : Int)) (x := x) hX0 hA0 (show y1 < wM (aWd a) by omega) (by omega) (by show 0 + _ ≤ 20; decide)) (cwV 3 hts (lw_V q3710 q3712 qs80 q102 q3713) rfl rfl rfl (by decide +kernel) ⟨Nat.le_of_ble_eq_true rfl, Nat.le_of_ble_eq_true rfl⟩) (m_preV hG) rfl rfl hl.1 rfl (lv_room (Nat.le_of_ble_eq_true rfl)) dX4_act_41 ⟨Nat.le_of_ble_eq_true rfl, Nat.le_of_ble_eq_true rfl⟩) hG (fun r_11 S_12 H locs hp hG => ?_)
        obtain ⟨rfl, hY⟩ := hp
        have hG : mW X mo ad S_12 s H locs := hG
        refine lv_goto (tgt := 71) hx hb dX4_act_44 (by decide) ?_
        exact m_iret hx hb hr hlocks hG (by unfold opAct; (repeat (first | rw [if_pos (by omega)] | rw [if_neg (by omega)])); exact ⟨rfl, hY⟩) ⟨Nat.le_of_ble_eq_true rfl, Nat.le_of_ble_eq_true rfl⟩ dX4_act_71
    · refine lv_iconst (v := zI 0) hx hb dX4_act_22 (by decide +kernel) ?_
      exact m_iret hx hb hr hlocks hG (by rw [show opAct a y move x = (0, aSetT a []) from (by unfold opAct; all_goals ((repeat (first | rw [if_pos (by omega)] | rw [if_neg (by omega)])) <;> rfl))]; exact ⟨rfl, hX0⟩) ⟨Nat.le_of_ble_eq_true rfl, Nat.le_of_ble_eq_true rfl⟩ dX4_act_23

