set_option maxRecDepth 100000
def lowI (nb : Nat) (o : Option Nat) : Int := match o with
  | none => (nb : Int)
  | some y => (y : Int)
set_option maxHeartbeats 4000000 in
theorem metX15_lineOf {l : Launch} {X : gX} {F : gF} {V : gV} {Z : va_W} {mt r j : Nat} {ta tb : Tx} (hm : isMatch X F mt r ta tb) (h24 : ta.length ≤ 24 ∧ tb.length ≤ 24) (hj : j < 1000) : Met l yX15_lineOf (ws_ yX15_lineOf cX15_lineOf 3 (some FieldType.int)) ({ frames := 0, cells := 0, slots := 0, locals := 0 }) (gP X F V (Z) [.ref mt, .int (zI (j : Int))]) (gQi X (fun u G U ws => u = zI (oI (fsB (fun i => decide (mPlace ta tb r i = some j)) ta.length 0)) ∧ F = G ∧ V = U ∧ Z = ws)) 0 0 (gA X) := by
  refine Met.g (by decide) (Nat.le_of_ble_eq_true rfl) ?_
  intro p e s m below meth c ls hx hb hr hts hown hlocks hml hin hG hl
  have hl : lv_has ls 3 [(0, .ref mt), (1, .int (zI (j : Int)))] := hl
  have hmZ := hm
  obtain ⟨pl, fp, w5, w6, w7, w8, hm1, hm2, hm3⟩ := hmZ
  refine lv_iconst (v := zI 0) hx hb dX15_lineOf_0 (by decide +kernel) ?_
  refine lv_istore_n (lv' := [(2, .int (zI 0)), (0, .ref mt), (1, .int (zI (j : Int)))]) hx hb dX15_lineOf_1 rfl hl (by decide) rfl (fun ls hl => ?_)
  have hl : lv_has ls 3 [(2, .int (zI ((0 : Nat) : Int))), (0, .ref mt), (1, .int (zI (j : Int)))] := by exact hl
  refine g_loop (fun mz H locs ls => ∃ (k : Nat), (k ≤ ta.length ∧ mz = ta.length - k ∧ ∀ i, i < k → mPlace ta tb r i ≠ some j) ∧ gW X F V (Z) s H locs ∧ lv_has ls 3 [(0, .ref mt), (1, .int (zI (j : Int))), (2, .int (zI (k : Int)))]) (ta.length - 0) ⟨0, ⟨Nat.zero_le _, rfl, fun i hi => by omega⟩, hG, (lv_sub hl [1, 2, 0] rfl)⟩ (fun mz ihA H locs ls hI => ?_)
  obtain ⟨k, ⟨hk, hmz, hno⟩, hG, hl⟩ := hI
  refine lv_iload_n hx hb dX15_lineOf_2 rfl (lv_at hl 2 rfl) ?_
  refine lv_aload_n hx hb dX15_lineOf_3 rfl (lv_at hl 0 rfl) ?_
  refine g_get (ci := 13) hx hb hts in_X15 hown hG (hG.fz hm1) rfl 2 (Nat.le_of_ble_eq_true rfl) (hts _ q1910) (fun _ h9 => h9) rfl dX15_lineOf_4 ?_
  refine g_alen hx hb hG 0 rfl (hG.fz hm2) dX15_lineOf_7 ?_
  refine g_cge (tgt := 29) hx hb dX15_lineOf_8 (by decide) (by omega) (fun h1 => ?_) (fun h1 => ?_)
  · refine lv_iconst (v := zI (-1)) hx hb dX15_lineOf_29 (by decide +kernel) ?_
    exact g_iret hx hb hr hlocks hG (⟨by rw [fsB_miss (p := (fun i => decide (mPlace ta tb r i = some j))) (fun i hi => decide_eq_false (hno i (by omega)))]; rfl, rfl, rfl, rfl⟩) ⟨Nat.le_of_ble_eq_true rfl, Nat.le_of_ble_eq_true rfl⟩ dX15_lineOf_30
  · refine lv_aload_n hx hb dX15_lineOf_11 rfl (lv_at hl 0 rfl) ?_
    refine g_get (ci := 13) hx hb hts in_X15 hown hG (hG.fz hm1) rfl 2 (Nat.le_of_ble_eq_true rfl) (hts _ q1910) (fun _ h9 => h9) rfl dX15_lineOf_12 ?_
    refine lv_iload_n hx hb dX15_lineOf_15 rfl (lv_at hl 2 rfl) ?_
    refine g_iald hx hb hG (hG.fz hm2) k ⟨rfl, by omega, by omega⟩ (v := zI (oI (mPlace ta tb r k))) (hm3 k (by omega)) dX15_lineOf_16 ?_
    have hpv1 := oI_lt (o := mPlace ta tb r k) (n := tb.length) (fun x9 hx9 => (mPlace_lt hx9).2)
    refine lv_iload_n hx hb dX15_lineOf_17 rfl (lv_at hl 1 rfl) ?_
    refine g_cne (tgt := 23) hx hb dX15_lineOf_18 (by decide) (by omega) (fun h2 => ?_) (fun h2 => ?_)
    · refine lv_iinc (v := zI ((k : Int) + 1 : Int)) (lv' := [(2, .int (zI ((k : Int) + 1 : Int))), (0, .ref mt), (1, .int (zI (j : Int)))]) hx hb dX15_lineOf_23 hl (k := 2) rfl ((zI_add _ _).trans (congrArg zI (by omega))) (by decide) rfl (fun ls hl => ?_)
      refine lv_goto (tgt := 2) hx hb dX15_lineOf_26 (by decide) ?_
      have hl : lv_has ls 3 [(2, .int (zI ((k + 1 : Nat) : Int))), (0, .ref mt), (1, .int (zI (j : Int)))] := by exact hl
      exact ihA (ta.length - (k + 1)) (by omega) H locs ls ⟨(k + 1), ⟨by omega, rfl, fun i hi => by by_cases hik : i = k; (subst hik; exact fun q => h2 (by rw [q]; rfl)); exact hno i (by omega)⟩, hG, (lv_sub hl [1, 2, 0] rfl)⟩
    · refine lv_iload_n hx hb dX15_lineOf_21 rfl (lv_at hl 2 rfl) ?_
      exact g_iret hx hb hr hlocks hG (⟨by rw [fsB_hit (p := (fun i => decide (mPlace ta tb r i = some j))) (k := k) (fun i hi => decide_eq_false (hno i hi)) (decide_eq_true (oI_n.mp h2)) (by omega)]; rfl, rfl, rfl, rfl⟩) ⟨Nat.le_of_ble_eq_true rfl, Nat.le_of_ble_eq_true rfl⟩ dX15_lineOf_22

set_option maxHeartbeats 4000000 in
theorem metX15_placed {l : Launch} {X : gX} {F : gF} {V : gV} {Z : va_W} {mt r pp qq : Nat} {ta tb : Tx} (hm : isMatch X F mt r ta tb) (h24 : ta.length ≤ 24 ∧ tb.length ≤ 24) (hpq : pp ≤ qq ∧ qq < ta.length) : Met l yX15_placed (ws_ yX15_placed cX15_placed 5 (some FieldType.int)) ({ frames := 0, cells := 0, slots := 0, locals := 0 }) (gP X F V (Z) [.ref mt, .int (zI (pp : Int)), .int (zI (qq : Int))]) (gQi X (fun u G U ws => u = zI (fCnt (mPlace ta tb r) pp (qq - pp + 1) : Int) ∧ F = G ∧ V = U ∧ Z = ws)) 0 0 (gA X) := by
  refine Met.g (by decide) (Nat.le_of_ble_eq_true rfl) ?_
  intro p e s m below meth c ls hx hb hr hts hown hlocks hml hin hG hl
  have hl : lv_has ls 5 [(0, .ref mt), (1, .int (zI (pp : Int))), (2, .int (zI (qq : Int)))] := hl
  have hmZ := hm
  obtain ⟨pl, fp, w5, w6, w7, w8, hm1, hm2, hm3⟩ := hmZ
  refine lv_iconst (v := zI 0) hx hb dX15_placed_0 (by decide +kernel) ?_
  refine lv_istore_n (lv' := [(3, .int (zI 0)), (0, .ref mt), (1, .int (zI (pp : Int))), (2, .int (zI (qq : Int)))]) hx hb dX15_placed_1 rfl hl (by decide) rfl (fun ls hl => ?_)
  refine lv_iload_n hx hb dX15_placed_2 rfl (lv_at hl 2 rfl) ?_
  refine lv_istore (lv' := [(4, .int (zI (pp : Int))), (3, .int (zI 0)), (0, .ref mt), (1, .int (zI (pp : Int))), (2, .int (zI (qq : Int)))]) hx hb dX15_placed_3 hl (by decide) rfl (fun ls hl => ?_)
  have hl : lv_has ls 5 [(4, .int (zI ((pp + 0 : Nat) : Int))), (3, .int (zI (fCnt (mPlace ta tb r) pp 0 : Int))), (0, .ref mt), (1, .int (zI (pp : Int))), (2, .int (zI (qq : Int)))] := by exact hl
  refine g_loop (fun mz H locs ls => ∃ (k : Nat), (pp + k ≤ qq + 1 ∧ mz = qq + 1 - (pp + k)) ∧ gW X F V (Z) s H locs ∧ lv_has ls 5 [(0, .ref mt), (1, .int (zI (pp : Int))), (2, .int (zI (qq : Int))), (3, .int (zI (fCnt (mPlace ta tb r) pp k : Int))), (4, .int (zI ((pp + k : Nat) : Int)))]) (qq + 1 - (pp + 0)) ⟨0, ⟨by omega, rfl⟩, hG, (lv_sub hl [2, 3, 4, 1, 0] rfl)⟩ (fun mz ihA H locs ls hI => ?_)
  obtain ⟨k, ⟨hk, hmz⟩, hG, hl⟩ := hI
  refine lv_iload hx hb dX15_placed_5 (lv_at hl 4 rfl) ?_
  refine lv_iload_n hx hb dX15_placed_7 rfl (lv_at hl 2 rfl) ?_
  refine g_cgt (tgt := 36) hx hb dX15_placed_8 (by decide) (by omega) (fun h1 => ?_) (fun h1 => ?_)
  · refine lv_iload_n hx hb dX15_placed_36 rfl (lv_at hl 3 rfl) ?_
    exact g_iret hx hb hr hlocks hG (⟨by rw [show qq - pp + 1 = k by omega], rfl, rfl, rfl⟩) ⟨Nat.le_of_ble_eq_true rfl, Nat.le_of_ble_eq_true rfl⟩ dX15_placed_37
  · refine lv_iload_n hx hb dX15_placed_11 rfl (lv_at hl 3 rfl) ?_
    refine lv_aload_n hx hb dX15_placed_12 rfl (lv_at hl 0 rfl) ?_
    refine g_get (ci := 13) hx hb hts in_X15 hown hG (hG.fz hm1) rfl 2 (Nat.le_of_ble_eq_true rfl) (hts _ q1910) (fun _ h9 => h9) rfl dX15_placed_13 ?_
    refine lv_iload hx hb dX15_placed_16 (lv_at hl 4 rfl) ?_
    refine g_iald hx hb hG (hG.fz hm2) (pp + k) ⟨rfl, by omega, by omega⟩ (v := zI (oI (mPlace ta tb r (pp + k)))) (hm3 (pp + k) (by omega)) dX15_placed_18 ?_
    have hpv1 := oI_lt (o := mPlace ta tb r (pp + k)) (n := tb.length) (fun x9 hx9 => (mPlace_lt hx9).2)
    refine lv_iconst (v := zI (-1)) hx hb dX15_placed_19 (by decide +kernel) ?_
    refine g_ceq (tgt := 27) hx hb dX15_placed_20 (by decide) (by omega) (fun h2 => ?_) (fun h2 => ?_)
    · refine lv_iconst (v := zI 0) hx hb dX15_placed_27 (by decide +kernel) ?_
      refine g_iadd hx hb dX15_placed_28 ?_
      refine lv_istore_n (lv' := [(3, .int (zI ((fCnt (mPlace ta tb r) pp k : Int) + 0))), (0, .ref mt), (1, .int (zI (pp : Int))), (2, .int (zI (qq : Int))), (4, .int (zI ((pp + k : Nat) : Int)))]) hx hb dX15_placed_29 rfl hl (by decide) rfl (fun ls hl => ?_)
      have hl : lv_has ls 5 [(3, .int (zI (fCnt (mPlace ta tb r) pp (k + 1) : Int))), (0, .ref mt), (1, .int (zI (pp : Int))), (2, .int (zI (qq : Int))), (4, .int (zI ((pp + k : Nat) : Int)))] := by rw [show ((fCnt (mPlace ta tb r) pp (k + 1) : Nat) : Int) = (fCnt (mPlace ta tb r) pp k : Int) + 0 from by rw [fCnt, if_neg (by rw [oI_m1.mp h2]; exact nofun)]; rfl]; exact hl
      refine lv_iinc (v := zI (((pp + k : Nat) : Int) + 1 : Int)) (lv' := [(4, .int (zI (((pp + k : Nat) : Int) + 1 : Int))), (3, .int (zI (fCnt (mPlace ta tb r) pp (k + 1) : Int))), (0, .ref mt), (1, .int (zI (pp : Int))), (2, .int (zI (qq : Int)))]) hx hb dX15_placed_30 hl (k := 4) rfl ((zI_add _ _).trans (congrArg zI (by omega))) (by decide) rfl (fun ls hl => ?_)
      refine lv_goto (tgt := 5) hx hb dX15_placed_33 (by decide) ?_
      have hl : lv_has ls 5 [(4, .int (zI ((pp + (k + 1) : Nat) : Int))), (3, .int (zI (fCnt (mPlace ta tb r) pp (k + 1) : Int))), (0, .ref mt), (1, .int (zI (pp : Int))), (2, .int (zI (qq : Int)))] := by exact hl
      exact ihA (qq + 1 - (pp + (k + 1))) (by omega) H locs ls ⟨(k + 1), ⟨by omega, rfl⟩, hG, (lv_sub hl [2, 3, 4, 1, 0] rfl)⟩
    · refine lv_iconst (v := zI 1) hx hb dX15_placed_23 (by decide +kernel) ?_
      refine lv_goto (tgt := 28) hx hb dX15_placed_24 (by decide) ?_
      refine g_iadd hx hb dX15_placed_28 ?_
      refine lv_istore_n (lv' := [(3, .int (zI ((fCnt (mPlace ta tb r) pp k : Int) + 1))), (0, .ref mt), (1, .int (zI (pp : Int))), (2, .int (zI (qq : Int))), (4, .int (zI ((pp + k : Nat) : Int)))]) hx hb dX15_placed_29 rfl hl (by decide) rfl (fun ls hl => ?_)
      have hl : lv_has ls 5 [(3, .int (zI (fCnt (mPlace ta tb r) pp (k + 1) : Int))), (0, .ref mt), (1, .int (zI (pp : Int))), (2, .int (zI (qq : Int))), (4, .int (zI ((pp + k : Nat) : Int)))] := by rw [show ((fCnt (mPlace ta tb r) pp (k + 1) : Nat) : Int) = (fCnt (mPlace ta tb r) pp k : Int) + 1 from by rw [fCnt, if_pos (by cases hq : mPlace ta tb r (pp + k) with | some x => rfl | none => (rw [hq] at h2; exact absurd rfl h2))]; rfl]; exact hl
      refine lv_iinc (v := zI (((pp + k : Nat) : Int) + 1 : Int)) (lv' := [(4, .int (zI (((pp + k : Nat) : Int) + 1 : Int))), (3, .int (zI (fCnt (mPlace ta tb r) pp (k + 1) : Int))), (0, .ref mt), (1, .int (zI (pp : Int))), (2, .int (zI (qq : Int)))]) hx hb dX15_placed_30 hl (k := 4) rfl ((zI_add _ _).trans (congrArg zI (by omega))) (by decide) rfl (fun ls hl => ?_)
      refine lv_goto (tgt := 5) hx hb dX15_placed_33 (by decide) ?_
      have hl : lv_has ls 5 [(4, .int (zI ((pp + (k + 1) : Nat) : Int))), (3, .int (zI (fCnt (mPlace ta tb r) pp (k + 1) : Int))), (0, .ref mt), (1, .int (zI (pp : Int))), (2, .int (zI (qq : Int)))] := by exact hl
      exact ihA (qq + 1 - (pp + (k + 1))) (by omega) H locs ls ⟨(k + 1), ⟨by omega, rfl⟩, hG, (lv_sub hl [2, 3, 4, 1, 0] rfl)⟩

set_option maxHeartbeats 4000000 in
theorem metX24_is {l : Launch} {X : gX} {F : gF} {V : gV} {Z : va_W} {sp : Nat} {z1 z2 x y : Int} : Met l yX24_is (ws_ yX24_is cX24_is 3 none) ({ frames := 0, cells := 0, slots := 0, locals := 0 }) (gP X F V ((sp, oB 22 [.int (zI z1), .int (zI z2)]) :: Z) [.ref sp, .int (zI x), .int (zI y)]) (gQv X (fun G U ws => F = G ∧ V = U ∧ ((sp, oB 22 [.int (zI x), .int (zI y)]) :: Z) = ws)) 0 0 (gA X) := by
  refine Met.g (by decide) (Nat.le_of_ble_eq_true rfl) ?_
  intro p e s m below meth c ls hx hb hr hts hown hlocks hml hin hG hl
  have hl : lv_has ls 3 [(0, .ref sp), (1, .int (zI x)), (2, .int (zI y))] := hl
  refine lv_aload_n hx hb dX24_is_0 rfl (lv_at hl 0 rfl) ?_
  refine lv_iload_n hx hb dX24_is_1 rfl (lv_at hl 1 rfl) ?_
  refine g_put (ci := 22) hx hb hts in_X24 tyX24 tyX24_ok nmX24 hown hG 0 rfl rfl 0 (Nat.le_of_ble_eq_true rfl) (hts _ q2292) (fun _ h9 => h9) rfl (tyX24_ok 0 (Nat.le_of_ble_eq_true rfl)) rfl rfl (Nat.le_of_ble_eq_true rfl) dX24_is_2 (fun H locs (hG : gW X F V ((sp, oB 22 [.int (zI x), .int (zI z2)]) :: Z) s H locs) => ?_)
  refine lv_aload_n hx hb dX24_is_5 rfl (lv_at hl 0 rfl) ?_
  refine lv_iload_n hx hb dX24_is_6 rfl (lv_at hl 2 rfl) ?_
  refine g_put (ci := 22) hx hb hts in_X24 tyX24 tyX24_ok nmX24 hown hG 0 rfl rfl 1 (Nat.le_of_ble_eq_true rfl) (hts _ q2301) (fun _ h9 => h9) rfl (tyX24_ok 1 (Nat.le_of_ble_eq_true rfl)) rfl rfl (Nat.le_of_ble_eq_true rfl) dX24_is_7 (fun H locs (hG : gW X F V ((sp, oB 22 [.int (zI x), .int (zI y)]) :: Z) s H locs) => ?_)
  exact g_vret hx hb hr hlocks hG (⟨rfl, rfl, rfl⟩) ⟨Nat.le_of_ble_eq_true rfl, Nat.le_of_ble_eq_true rfl⟩ dX24_is_10

set_option maxHeartbeats 4000000 in
theorem metX24_length {l : Launch} {X : gX} {F : gF} {V : gV} {Z : va_W} {sp : Nat} {x y : Int} : Met l yX24_length (ws_ yX24_length cX24_length 1 (some FieldType.int)) ({ frames := 0, cells := 0, slots := 0, locals := 0 }) (gP X F V ((sp, oB 22 [.int (zI x), .int (zI y)]) :: Z) [.ref sp]) (gQi X (fun u G U ws => u = zI (y - x + 1) ∧ F = G ∧ V = U ∧ ((sp, oB 22 [.int (zI x), .int (zI y)]) :: Z) = ws)) 0 0 (gA X) := by
  refine Met.g (by decide) (Nat.le_of_ble_eq_true rfl) ?_
  intro p e s m below meth c ls hx hb hr hts hown hlocks hml hin hG hl
  have hl : lv_has ls 1 [(0, .ref sp)] := hl
  refine lv_aload_n hx hb dX24_length_0 rfl (lv_at hl 0 rfl) ?_
  refine g_get (ci := 22) hx hb hts in_X24 hown hG (hG.at 0 rfl) rfl 1 (Nat.le_of_ble_eq_true rfl) (hts _ q2301) (fun _ h9 => h9) rfl dX24_length_1 ?_
  refine lv_aload_n hx hb dX24_length_4 rfl (lv_at hl 0 rfl) ?_
  refine g_get (ci := 22) hx hb hts in_X24 hown hG (hG.at 0 rfl) rfl 0 (Nat.le_of_ble_eq_true rfl) (hts _ q2292) (fun _ h9 => h9) rfl dX24_length_5 ?_
  refine g_isub hx hb dX24_length_8 ?_
  refine lv_iconst (v := zI 1) hx hb dX24_length_9 (by decide +kernel) ?_
  refine g_iadd hx hb dX24_length_10 ?_
  exact g_iret hx hb hr hlocks hG (⟨rfl, rfl, rfl, rfl⟩) ⟨Nat.le_of_ble_eq_true rfl, Nat.le_of_ble_eq_true rfl⟩ dX24_length_11

set_option maxHeartbeats 4000000 in
theorem metX24_init {l : Launch} {X : gX} {F : gF} {V : gV} {Z : va_W} {sp : Nat} : Met l yX24_init (ws_ yX24_init cX24_init 1 none) ({ frames := 1, cells := 0, slots := 0, locals := 20 }) (gP X F V ((sp, oB 22 [.int (zI 0), .int (zI 0)]) :: Z) [.ref sp]) (gQv X (fun G U ws => F = G ∧ V = U ∧ ((sp, oB 22 [.int (zI 0), .int (zI 0)]) :: Z) = ws)) 0 0 (gA X) := by
  refine Met.g (by decide) (Nat.le_of_ble_eq_true rfl) ?_
  intro p e s m below meth c ls hx hb hr hts hown hlocks hml hin hG hl
  have hl : lv_has ls 1 [(0, .ref sp)] := hl
  refine lv_aload_n hx hb dX24_init_0 rfl (lv_at hl 0 rfl) ?_
  refine W.objInit hx hb hown (hts _ q2291) (hts _ q170) (hts _ q171) rfl (by rw [hml]; exact hl.1) rfl dX24_init_1 (Nat.le_of_ble_eq_true rfl) (Nat.le_of_ble_eq_true rfl) ?_
  refine W.eq (g2 := F0 m 4 ls []) rfl ?_
  exact g_vret hx hb hr hlocks hG (⟨rfl, rfl, rfl⟩) ⟨Nat.le_of_ble_eq_true rfl, Nat.le_of_ble_eq_true rfl⟩ dX24_init_4

