set_option maxRecDepth 100000
theorem nxC_0 (f i : Nat) : nxC 0 f i = i := by
  cases f with
  | zero => rfl
  | succ f => unfold nxC; rw [if_neg (by rw [Nat.zero_testBit]; exact nofun)]
theorem nxS_0 : ∀ f i, nxS 0 f i = none := by
  intro f
  induction f with
  | zero => intro i; rfl
  | succ f ih => intro i; unfold nxS; rw [if_neg (by rw [Nat.zero_testBit]; exact nofun)]; exact ih _
theorem bc_0 : ∀ n, bc 0 n = 0 := by
  intro n
  induction n with
  | zero => rfl
  | succ n ih => unfold bc; rw [ih, if_neg (by rw [Nat.zero_testBit]; exact nofun)]
theorem nxC_31 {x i : Nat} (hx : x < 2147483648) (hi : i < 32) : nxC x 32 i < 32 := by
  obtain ⟨q1, q2, q3, q4⟩ := nxC_R (show x < 4294967296 by omega) 32 i (by omega) (by omega)
  rcases Nat.lt_or_ge (nxC x 32 i) 32 with q | q
  · exact q
  · have := q4 31 (by omega) (by omega)
    rw [Nat.testBit_lt_two_pow (show x < 2 ^ 31 from hx)] at this
    cases this
theorem shl_w {i : Nat} (hi : i < 64) : (-1 : Int64) <<< ((zI (i : Int)).toInt64 &&& 63) = lN ((18446744073709551615 * 2 ^ i) % 2 ^ 64) := by
  rw [show (-1 : Int64) = lN 18446744073709551615 from by decide +kernel, zI_nat, wb_shl _ hi]
  exact wb_mod _
theorem shl_1 {i : Nat} (hi : i < 64) : zL 1 <<< ((zI (i : Int)).toInt64 &&& 63) = lN (2 ^ i) := by
  rw [show zL 1 = lN 1 from zL_lN 1, zI_nat, wb_shl _ hi, Nat.one_mul]
theorem two_64 {i : Nat} (hi : i < 32) : 2 ^ i < 2 ^ 64 := Nat.pow_lt_pow_right (by decide) (by omega)
set_option maxHeartbeats 4000000 in
theorem metJ37_set {l : Launch} {X : gX} {F : gF} {V : gV} {Z : va_W} {b wd x : Nat} {iu : Int} {f : Nat → Int64} (hb9 : bsR x iu f) {i : Nat} (hi : i < 32) : Met l yJ37_set (ws_ yJ37_set cJ37_set 3 none) ({ frames := 2, cells := 0, slots := 0, locals := 44 }) (gP X F V ((b, oB 32 [.ref wd, .int (zI iu), .int (zI 0)]) :: (wd, aL (gT X 1) 1 f) :: Z) [.ref b, .int (zI (i : Int))]) (gQv X (fun G U ws => F = G ∧ V = U ∧ ((b, oB 32 [.ref wd, .int (zI 1), .int (zI 0)]) :: (wd, aL (gT X 1) 1 (vp_updL f 0 (lN (x ||| 2 ^ i)))) :: Z) = ws)) 0 0 (gA X) := by
  refine Met.g (by decide) (Nat.le_of_ble_eq_true rfl) ?_
  intro p e s m below meth c ls hx hb hr hts hown hlocks hml hin hG hl
  have hl : lv_has ls 3 [(0, .ref b), (1, .int (zI (i : Int)))] := hl
  refine lv_iload_n hx hb dJ37_set_0 rfl (lv_at hl 1 rfl) ?_
  refine g_ge (tgt := 31) hx hb dJ37_set_1 (by decide) (by omega) (fun h1 => ?_) (fun h1 => ?_)
  · refine lv_iload_n hx hb dJ37_set_31 rfl (lv_at hl 1 rfl) ?_
    refine g_ci (va_runS (As := [.int (zI (i : Int))]) (rest := []) ⟨hx, hb, hml, hown, hts⟩ (metJ37_wordIndex (i := i) (by omega)) (va_cwS 1 hts (lw_S q1800 q1801 q142 q1802) rfl rfl rfl (by decide +kernel) ⟨Nat.le_of_ble_eq_true rfl, Nat.le_of_ble_eq_true rfl⟩) (g_preS hG) rfl rfl hl.1 rfl (lv_room (Nat.le_of_ble_eq_true rfl)) dJ37_set_32 ⟨Nat.le_of_ble_eq_true rfl, Nat.le_of_ble_eq_true rfl⟩) hG (fun r_1 F_2 V_3 ws_ H locs hp hG => ?_)
    obtain ⟨rfl, rfl, rfl, rfl⟩ := hp
    have hG : gW X F V ((b, oB 32 [.ref wd, .int (zI iu), .int (zI 0)]) :: (wd, aL (gT X 1) 1 f) :: Z) s H locs := hG
    have hx9 := hb9.2.1
    have hiu9 := hb9.2.2
    refine lv_istore_n (lv' := [(2, .int (zI 0)), (0, .ref b), (1, .int (zI (i : Int)))]) hx hb dJ37_set_35 rfl hl (by decide) rfl (fun ls hl => ?_)
    refine lv_aload_n hx hb dJ37_set_36 rfl (lv_at hl 1 rfl) ?_
    refine lv_iload_n hx hb dJ37_set_37 rfl (lv_at hl 0 rfl) ?_
    refine g_cv (va_runV (As := [.int (zI 0)]) (rest := []) ⟨hx, hb, hml, hown, hts⟩ (metJ37_expandTo (hb9.2.2.elim (fun q => Or.inl q.1) Or.inr)) (cwV 1 hts (lw_V q1847 q1849 qs24 q142 q1850) rfl rfl rfl (by decide +kernel) ⟨Nat.le_of_ble_eq_true rfl, Nat.le_of_ble_eq_true rfl⟩) (g_preV hG (g_recv hG (hG.at 0 rfl) (ci := 32) rfl)) rfl rfl hl.1 rfl (lv_room (Nat.le_of_ble_eq_true rfl)) dJ37_set_38 ⟨Nat.le_of_ble_eq_true rfl, Nat.le_of_ble_eq_true rfl⟩) hG (fun F_5 V_6 ws_ H locs hp hG => ?_)
    obtain ⟨rfl, rfl, rfl⟩ := hp
    have hG : gW X F V ((b, oB 32 [.ref wd, .int (zI 1), .int (zI 0)]) :: (wd, aL (gT X 1) 1 f) :: Z) s H locs := hG
    refine lv_aload_n hx hb dJ37_set_41 rfl (lv_at hl 1 rfl) ?_
    refine g_get (ci := 32) hx hb hts in_J37 hown hG (hG.at 0 rfl) rfl 0 (Nat.le_of_ble_eq_true rfl) (hts _ q1803) (fun _ h9 => h9) rfl dJ37_set_42 ?_
    refine lv_iload_n hx hb dJ37_set_45 rfl (lv_at hl 0 rfl) ?_
    refine lv_dup2_11 hx hb dJ37_set_46 rfl rfl ?_
    refine g_lald hx hb hG (hG.at 1 rfl) 0 ⟨rfl, by omega, by omega⟩ (v := (lN x)) hb9.1 dJ37_set_47 ?_
    refine lv_lconst (v := zL 1) hx hb dJ37_set_48 (by decide +kernel) ?_
    refine lv_iload_n hx hb dJ37_set_49 rfl (lv_at hl 2 rfl) ?_
    refine lv_lshl (v := ((zL 1) <<< ((zI (i : Int)).toInt64 &&& 63))) hx hb dJ37_set_50 rfl ?_
    refine g_topl (lN (2 ^ i)) (shl_1 (by omega)) ?_
    refine lv_lor hx hb dJ37_set_51 ?_
    refine g_topl (lN (x ||| 2 ^ i)) (wb_or (by omega) (two_64 hi)) ?_
    refine g_last hx hb hG 1 rfl 0 ⟨rfl, by omega, by omega⟩ dJ37_set_52 (fun H locs (hG : gW X F V ((b, oB 32 [.ref wd, .int (zI 1), .int (zI 0)]) :: (wd, aL (gT X 1) 1 (vp_updL f 0 (lN (x ||| 2 ^ i)))) :: Z) s H locs) => ?_)
    refine lv_aload_n hx hb dJ37_set_53 rfl (lv_at hl 1 rfl) ?_
    refine g_cv (va_runV (As := []) (rest := []) ⟨hx, hb, hml, hown, hts⟩ (metJ37_checkInvariants) (cwV 0 hts (lw_V q1864 q1866 qs26 q142 q1867) rfl rfl rfl (by decide +kernel) ⟨Nat.le_of_ble_eq_true rfl, Nat.le_of_ble_eq_true rfl⟩) (g_preV hG (g_recv hG (hG.at 0 rfl) (ci := 32) rfl)) rfl rfl hl.1 rfl (lv_room (Nat.le_of_ble_eq_true rfl)) dJ37_set_54 ⟨Nat.le_of_ble_eq_true rfl, Nat.le_of_ble_eq_true rfl⟩) hG (fun F_8 V_9 ws_ H locs hp hG => ?_)
    obtain ⟨rfl, rfl, rfl⟩ := hp
    have hG : gW X F V ((b, oB 32 [.ref wd, .int (zI 1), .int (zI 0)]) :: (wd, aL (gT X 1) 1 (vp_updL f 0 (lN (x ||| 2 ^ i)))) :: Z) s H locs := hG
    exact g_vret hx hb hr hlocks hG (⟨rfl, rfl, rfl⟩) ⟨Nat.le_of_ble_eq_true rfl, Nat.le_of_ble_eq_true rfl⟩ dJ37_set_57
  · exfalso; omega

set_option maxHeartbeats 4000000 in
theorem metJ37_get {l : Launch} {X : gX} {F : gF} {V : gV} {Z : va_W} {b wd x : Nat} {iu : Int} {f : Nat → Int64} (hb9 : bsR x iu f) {i : Nat} (hi : i < 32) : Met l yJ37_get (ws_ yJ37_get cJ37_get 3 (some FieldType.boolean)) ({ frames := 1, cells := 0, slots := 0, locals := 20 }) (gP X F V ((b, oB 32 [.ref wd, .int (zI iu), .int (zI 0)]) :: (wd, aL (gT X 1) 1 f) :: Z) [.ref b, .int (zI (i : Int))]) (gQi X (fun u G U ws => u = zI (bI (x.testBit i)) ∧ F = G ∧ V = U ∧ ((b, oB 32 [.ref wd, .int (zI iu), .int (zI 0)]) :: (wd, aL (gT X 1) 1 f) :: Z) = ws)) 0 0 (gA X) := by
  refine Met.g (by decide) (Nat.le_of_ble_eq_true rfl) ?_
  intro p e s m below meth c ls hx hb hr hts hown hlocks hml hin hG hl
  have hl : lv_has ls 3 [(0, .ref b), (1, .int (zI (i : Int)))] := hl
  have hx9 := hb9.2.1
  have hiu9 := hb9.2.2
  refine lv_iload_n hx hb dJ37_get_0 rfl (lv_at hl 1 rfl) ?_
  refine g_ge (tgt := 31) hx hb dJ37_get_1 (by decide) (by omega) (fun h1 => ?_) (fun h1 => ?_)
  · refine lv_aload_n hx hb dJ37_get_31 rfl (lv_at hl 0 rfl) ?_
    refine g_cv (va_runV (As := []) (rest := []) ⟨hx, hb, hml, hown, hts⟩ (metJ37_checkInvariants) (cwV 0 hts (lw_V q1864 q1866 qs26 q142 q1867) rfl rfl rfl (by decide +kernel) ⟨Nat.le_of_ble_eq_true rfl, Nat.le_of_ble_eq_true rfl⟩) (g_preV hG (g_recv hG (hG.at 0 rfl) (ci := 32) rfl)) rfl rfl hl.1 rfl (lv_room (Nat.le_of_ble_eq_true rfl)) dJ37_get_32 ⟨Nat.le_of_ble_eq_true rfl, Nat.le_of_ble_eq_true rfl⟩) hG (fun F_2 V_3 ws_ H locs hp hG => ?_)
    obtain ⟨rfl, rfl, rfl⟩ := hp
    have hG : gW X F V ((b, oB 32 [.ref wd, .int (zI iu), .int (zI 0)]) :: (wd, aL (gT X 1) 1 f) :: Z) s H locs := hG
    refine lv_iload_n hx hb dJ37_get_35 rfl (lv_at hl 1 rfl) ?_
    refine g_ci (va_runS (As := [.int (zI (i : Int))]) (rest := []) ⟨hx, hb, hml, hown, hts⟩ (metJ37_wordIndex (i := i) (by omega)) (va_cwS 1 hts (lw_S q1800 q1801 q142 q1802) rfl rfl rfl (by decide +kernel) ⟨Nat.le_of_ble_eq_true rfl, Nat.le_of_ble_eq_true rfl⟩) (g_preS hG) rfl rfl hl.1 rfl (lv_room (Nat.le_of_ble_eq_true rfl)) dJ37_get_36 ⟨Nat.le_of_ble_eq_true rfl, Nat.le_of_ble_eq_true rfl⟩) hG (fun r_4 F_5 V_6 ws_ H locs hp hG => ?_)
    obtain ⟨rfl, rfl, rfl, rfl⟩ := hp
    have hG : gW X F V ((b, oB 32 [.ref wd, .int (zI iu), .int (zI 0)]) :: (wd, aL (gT X 1) 1 f) :: Z) s H locs := hG
    refine lv_istore_n (lv' := [(2, .int (zI 0)), (0, .ref b), (1, .int (zI (i : Int)))]) hx hb dJ37_get_39 rfl hl (by decide) rfl (fun ls hl => ?_)
    refine lv_iload_n hx hb dJ37_get_40 rfl (lv_at hl 0 rfl) ?_
    refine lv_aload_n hx hb dJ37_get_41 rfl (lv_at hl 1 rfl) ?_
    refine g_get (ci := 32) hx hb hts in_J37 hown hG (hG.at 0 rfl) rfl 1 (Nat.le_of_ble_eq_true rfl) (hts _ q1804) (fun _ h9 => h9) rfl dJ37_get_42 ?_
    refine g_cge (tgt := 67) hx hb dJ37_get_45 (by decide) (by omega) (fun h2 => ?_) (fun h2 => ?_)
    · refine lv_iconst (v := zI 0) hx hb dJ37_get_67 (by decide +kernel) ?_
      exact g_zret hx hb hr hlocks rfl hG (⟨by rw [show x = 0 from hb9.2.2.elim (fun q => q.2) (fun q => by omega), Nat.zero_testBit]; rfl, rfl, rfl, rfl⟩) ⟨Nat.le_of_ble_eq_true rfl, Nat.le_of_ble_eq_true rfl⟩ dJ37_get_68
    · refine lv_aload_n hx hb dJ37_get_48 rfl (lv_at hl 1 rfl) ?_
      refine g_get (ci := 32) hx hb hts in_J37 hown hG (hG.at 0 rfl) rfl 0 (Nat.le_of_ble_eq_true rfl) (hts _ q1803) (fun _ h9 => h9) rfl dJ37_get_49 ?_
      refine lv_iload_n hx hb dJ37_get_52 rfl (lv_at hl 0 rfl) ?_
      refine g_lald hx hb hG (hG.at 1 rfl) 0 ⟨rfl, by omega, by omega⟩ (v := (lN x)) hb9.1 dJ37_get_53 ?_
      refine lv_lconst (v := zL 1) hx hb dJ37_get_54 (by decide +kernel) ?_
      refine lv_iload_n hx hb dJ37_get_55 rfl (lv_at hl 2 rfl) ?_
      refine lv_lshl (v := ((zL 1) <<< ((zI (i : Int)).toInt64 &&& 63))) hx hb dJ37_get_56 rfl ?_
      refine g_topl (lN (2 ^ i)) (shl_1 (by omega)) ?_
      refine lv_land hx hb dJ37_get_57 ?_
      refine g_topl (lN (x &&& 2 ^ i)) (wb_and (by omega) (two_64 hi)) ?_
      refine lv_lconst (v := zL 0) hx hb dJ37_get_58 (by decide +kernel) ?_
      refine g_lcmp hx hb dJ37_get_59 (fun zc_7 hzc_7 => ?_)
      have hand : x &&& 2 ^ i < 18446744073709551616 := Nat.lt_of_le_of_lt Nat.and_le_left (by omega)
      refine g_eq (tgt := 67) hx hb dJ37_get_60 (by decide) (zc_lt hzc_7) (fun h3 => ?_) (fun h3 => ?_)
      · refine lv_iconst (v := zI 0) hx hb dJ37_get_67 (by decide +kernel) ?_
        exact g_zret hx hb hr hlocks rfl hG (⟨by rw [tb_and.mp ((lN_z hand).mp (zc_eq hzc_7 h3))]; rfl, rfl, rfl, rfl⟩) ⟨Nat.le_of_ble_eq_true rfl, Nat.le_of_ble_eq_true rfl⟩ dJ37_get_68
      · refine lv_iconst (v := zI 1) hx hb dJ37_get_63 (by decide +kernel) ?_
        refine lv_goto (tgt := 68) hx hb dJ37_get_64 (by decide) ?_
        exact g_zret hx hb hr hlocks rfl hG (⟨by rw [show x.testBit i = true from by cases hq : x.testBit i with | true => rfl | false => exact absurd ((lN_z hand).mpr (tb_and.mpr hq)) (zc_ne hzc_7 h3)]; rfl, rfl, rfl, rfl⟩) ⟨Nat.le_of_ble_eq_true rfl, Nat.le_of_ble_eq_true rfl⟩ dJ37_get_68
  · exfalso; omega

set_option maxHeartbeats 4000000 in
theorem metJ37_nextClearBit {l : Launch} {X : gX} {F : gF} {V : gV} {Z : va_W} {b wd x : Nat} {iu : Int} {f : Nat → Int64} (hb9 : bsR x iu f) {i : Nat} (hi : i < 32) (hx31 : x < 2147483648) : Met l yJ37_nextClearBit (ws_ yJ37_nextClearBit cJ37_nextClearBit 5 (some FieldType.int)) ({ frames := 2, cells := 0, slots := 0, locals := 43 }) (gP X F V ((b, oB 32 [.ref wd, .int (zI iu), .int (zI 0)]) :: (wd, aL (gT X 1) 1 f) :: Z) [.ref b, .int (zI (i : Int))]) (gQi X (fun u G U ws => u = zI (nxC x 32 i : Int) ∧ F = G ∧ V = U ∧ ((b, oB 32 [.ref wd, .int (zI iu), .int (zI 0)]) :: (wd, aL (gT X 1) 1 f) :: Z) = ws)) 0 0 (gA X) := by
  refine Met.g (by decide) (Nat.le_of_ble_eq_true rfl) ?_
  intro p e s m below meth c ls hx hb hr hts hown hlocks hml hin hG hl
  have hl : lv_has ls 5 [(0, .ref b), (1, .int (zI (i : Int)))] := hl
  have hx9 := hb9.2.1
  have hiu9 := hb9.2.2
  refine lv_iload_n hx hb dJ37_nextClearBit_0 rfl (lv_at hl 1 rfl) ?_
  refine g_ge (tgt := 31) hx hb dJ37_nextClearBit_1 (by decide) (by omega) (fun h1 => ?_) (fun h1 => ?_)
  · refine lv_aload_n hx hb dJ37_nextClearBit_31 rfl (lv_at hl 0 rfl) ?_
    refine g_cv (va_runV (As := []) (rest := []) ⟨hx, hb, hml, hown, hts⟩ (metJ37_checkInvariants) (cwV 0 hts (lw_V q1864 q1866 qs26 q142 q1867) rfl rfl rfl (by decide +kernel) ⟨Nat.le_of_ble_eq_true rfl, Nat.le_of_ble_eq_true rfl⟩) (g_preV hG (g_recv hG (hG.at 0 rfl) (ci := 32) rfl)) rfl rfl hl.1 rfl (lv_room (Nat.le_of_ble_eq_true rfl)) dJ37_nextClearBit_32 ⟨Nat.le_of_ble_eq_true rfl, Nat.le_of_ble_eq_true rfl⟩) hG (fun F_2 V_3 ws_ H locs hp hG => ?_)
    obtain ⟨rfl, rfl, rfl⟩ := hp
    have hG : gW X F V ((b, oB 32 [.ref wd, .int (zI iu), .int (zI 0)]) :: (wd, aL (gT X 1) 1 f) :: Z) s H locs := hG
    refine lv_iload_n hx hb dJ37_nextClearBit_35 rfl (lv_at hl 1 rfl) ?_
    refine g_ci (va_runS (As := [.int (zI (i : Int))]) (rest := []) ⟨hx, hb, hml, hown, hts⟩ (metJ37_wordIndex (i := i) (by omega)) (va_cwS 1 hts (lw_S q1800 q1801 q142 q1802) rfl rfl rfl (by decide +kernel) ⟨Nat.le_of_ble_eq_true rfl, Nat.le_of_ble_eq_true rfl⟩) (g_preS hG) rfl rfl hl.1 rfl (lv_room (Nat.le_of_ble_eq_true rfl)) dJ37_nextClearBit_36 ⟨Nat.le_of_ble_eq_true rfl, Nat.le_of_ble_eq_true rfl⟩) hG (fun r_4 F_5 V_6 ws_ H locs hp hG => ?_)
    obtain ⟨rfl, rfl, rfl, rfl⟩ := hp
    have hG : gW X F V ((b, oB 32 [.ref wd, .int (zI iu), .int (zI 0)]) :: (wd, aL (gT X 1) 1 f) :: Z) s H locs := hG
    refine lv_istore_n (lv' := [(2, .int (zI 0)), (0, .ref b), (1, .int (zI (i : Int)))]) hx hb dJ37_nextClearBit_39 rfl hl (by decide) rfl (fun ls hl => ?_)
    refine lv_iload_n hx hb dJ37_nextClearBit_40 rfl (lv_at hl 0 rfl) ?_
    refine lv_aload_n hx hb dJ37_nextClearBit_41 rfl (lv_at hl 1 rfl) ?_
    refine g_get (ci := 32) hx hb hts in_J37 hown hG (hG.at 0 rfl) rfl 1 (Nat.le_of_ble_eq_true rfl) (hts _ q1804) (fun _ h9 => h9) rfl dJ37_nextClearBit_42 ?_
    refine g_clt (tgt := 50) hx hb dJ37_nextClearBit_45 (by decide) (by omega) (fun h2 => ?_) (fun h2 => ?_)
    · refine lv_aload_n hx hb dJ37_nextClearBit_50 rfl (lv_at hl 1 rfl) ?_
      refine g_get (ci := 32) hx hb hts in_J37 hown hG (hG.at 0 rfl) rfl 0 (Nat.le_of_ble_eq_true rfl) (hts _ q1803) (fun _ h9 => h9) rfl dJ37_nextClearBit_51 ?_
      refine lv_iload_n hx hb dJ37_nextClearBit_54 rfl (lv_at hl 0 rfl) ?_
      refine g_lald hx hb hG (hG.at 1 rfl) 0 ⟨rfl, by omega, by omega⟩ (v := (lN x)) hb9.1 dJ37_nextClearBit_55 ?_
      refine lv_ldc2 (v := -1) hx hb hown (hts _ q1889) dJ37_nextClearBit_56 ?_
      refine lv_lxor hx hb dJ37_nextClearBit_59 ?_
      refine g_topl (lN (x ^^^ 18446744073709551615)) (by rw [show (-1 : Int64) = lN 18446744073709551615 from by decide +kernel]; exact wb_xor9 _ _) ?_
      refine lv_ldc2 (v := -1) hx hb hown (hts _ q1889) dJ37_nextClearBit_60 ?_
      refine lv_iload_n hx hb dJ37_nextClearBit_63 rfl (lv_at hl 2 rfl) ?_
      refine lv_lshl (v := ((-1 : Int64) <<< ((zI (i : Int)).toInt64 &&& 63))) hx hb dJ37_nextClearBit_64 rfl ?_
      refine g_topl (lN ((18446744073709551615 * 2 ^ i) % 2 ^ 64)) (shl_w (by omega)) ?_
      refine lv_land hx hb dJ37_nextClearBit_65 ?_
      refine g_topl (lN ((x ^^^ 18446744073709551615) &&& ((18446744073709551615 * 2 ^ i) % 2 ^ 64))) (wb_and (Nat.xor_lt_two_pow (show x < 2 ^ 64 by omega) (by decide)) (Nat.mod_lt _ (by decide))) ?_
      have hlow := low_clear hx9 hi (nxC_31 hx31 hi)
      have h64 : ((x ^^^ 18446744073709551615) &&& ((18446744073709551615 * 2 ^ i) % 2 ^ 64)) < 18446744073709551616 := Nat.and_lt_two_pow _ (show _ < 2 ^ 64 from Nat.mod_lt _ (by decide))
      refine lv_lstore_n (lv' := [(3, .long (lN ((x ^^^ 18446744073709551615) &&& ((18446744073709551615 * 2 ^ i) % 2 ^ 64)))), (2, .int (zI 0)), (0, .ref b), (1, .int (zI (i : Int)))]) hx hb dJ37_nextClearBit_66 rfl hl (by decide) rfl (fun ls hl => ?_)
      refine lv_lload_n hx hb dJ37_nextClearBit_67 rfl (lv_at hl 0 rfl) ?_
      refine lv_lconst (v := zL 0) hx hb dJ37_nextClearBit_68 (by decide +kernel) ?_
      refine g_lcmp hx hb dJ37_nextClearBit_69 (fun zc_7 hzc_7 => ?_)
      refine g_eq (tgt := 83) hx hb dJ37_nextClearBit_70 (by decide) (zc_lt hzc_7) (fun h3 => ?_) (fun h3 => ?_)
      · exact absurd ((lN_z h64).mp (zc_eq hzc_7 h3)) (by have := hlow.pos; omega)
      · refine lv_iload_n hx hb dJ37_nextClearBit_73 rfl (lv_at hl 1 rfl) ?_
        refine lv_bipush (v := zI 64) hx hb dJ37_nextClearBit_74 (by decide +kernel) ?_
        refine g_imul hx hb dJ37_nextClearBit_76 ?_
        refine g_topz (y := 0) (by omega) ?_
        refine lv_lload_n hx hb dJ37_nextClearBit_77 rfl (lv_at hl 0 rfl) ?_
        refine g_ci (va_runS (As := [.long (lN ((x ^^^ 18446744073709551615) &&& ((18446744073709551615 * 2 ^ i) % 2 ^ 64)))]) (rest := [.int (zI 0)]) ⟨hx, hb, hml, hown, hts⟩ (metJ38_numberOfTrailingZeros (k := nxC x 32 i) hlow (nxC_31 hx31 hi)) (va_cwS 1 hts (lw_S q1890 q1891 q143 q1892) rfl rfl rfl (by decide +kernel) ⟨Nat.le_of_ble_eq_true rfl, Nat.le_of_ble_eq_true rfl⟩) (g_preS hG) rfl rfl hl.1 rfl (lv_room (Nat.le_of_ble_eq_true rfl)) dJ37_nextClearBit_78 ⟨Nat.le_of_ble_eq_true rfl, Nat.le_of_ble_eq_true rfl⟩) hG (fun r_8 F_9 V_10 ws_ H locs hp hG => ?_)
        obtain ⟨rfl, rfl, rfl, rfl⟩ := hp
        have hG : gW X F V ((b, oB 32 [.ref wd, .int (zI iu), .int (zI 0)]) :: (wd, aL (gT X 1) 1 f) :: Z) s H locs := hG
        refine g_iadd hx hb dJ37_nextClearBit_81 ?_
        exact g_iret hx hb hr hlocks hG (⟨congrArg zI (by omega), rfl, rfl, rfl⟩) ⟨Nat.le_of_ble_eq_true rfl, Nat.le_of_ble_eq_true rfl⟩ dJ37_nextClearBit_82
    · refine lv_iload_n hx hb dJ37_nextClearBit_48 rfl (lv_at hl 2 rfl) ?_
      exact g_iret hx hb hr hlocks hG (⟨by rw [show x = 0 from hb9.2.2.elim (fun q => q.2) (fun q => by omega), nxC_0], rfl, rfl, rfl⟩) ⟨Nat.le_of_ble_eq_true rfl, Nat.le_of_ble_eq_true rfl⟩ dJ37_nextClearBit_49
  · exfalso; omega

set_option maxHeartbeats 4000000 in
theorem metJ37_nextSetBit {l : Launch} {X : gX} {F : gF} {V : gV} {Z : va_W} {b wd x : Nat} {iu : Int} {f : Nat → Int64} (hb9 : bsR x iu f) {i : Nat} (hi : i < 32) : Met l yJ37_nextSetBit (ws_ yJ37_nextSetBit cJ37_nextSetBit 5 (some FieldType.int)) ({ frames := 2, cells := 0, slots := 0, locals := 43 }) (gP X F V ((b, oB 32 [.ref wd, .int (zI iu), .int (zI 0)]) :: (wd, aL (gT X 1) 1 f) :: Z) [.ref b, .int (zI (i : Int))]) (gQi X (fun u G U ws => u = zI (oI (nxS x 32 i)) ∧ F = G ∧ V = U ∧ ((b, oB 32 [.ref wd, .int (zI iu), .int (zI 0)]) :: (wd, aL (gT X 1) 1 f) :: Z) = ws)) 0 0 (gA X) := by
  refine Met.g (by decide) (Nat.le_of_ble_eq_true rfl) ?_
  intro p e s m below meth c ls hx hb hr hts hown hlocks hml hin hG hl
  have hl : lv_has ls 5 [(0, .ref b), (1, .int (zI (i : Int)))] := hl
  have hx9 := hb9.2.1
  have hiu9 := hb9.2.2
  refine lv_iload_n hx hb dJ37_nextSetBit_0 rfl (lv_at hl 1 rfl) ?_
  refine g_ge (tgt := 31) hx hb dJ37_nextSetBit_1 (by decide) (by omega) (fun h1 => ?_) (fun h1 => ?_)
  · refine lv_aload_n hx hb dJ37_nextSetBit_31 rfl (lv_at hl 0 rfl) ?_
    refine g_cv (va_runV (As := []) (rest := []) ⟨hx, hb, hml, hown, hts⟩ (metJ37_checkInvariants) (cwV 0 hts (lw_V q1864 q1866 qs26 q142 q1867) rfl rfl rfl (by decide +kernel) ⟨Nat.le_of_ble_eq_true rfl, Nat.le_of_ble_eq_true rfl⟩) (g_preV hG (g_recv hG (hG.at 0 rfl) (ci := 32) rfl)) rfl rfl hl.1 rfl (lv_room (Nat.le_of_ble_eq_true rfl)) dJ37_nextSetBit_32 ⟨Nat.le_of_ble_eq_true rfl, Nat.le_of_ble_eq_true rfl⟩) hG (fun F_2 V_3 ws_ H locs hp hG => ?_)
    obtain ⟨rfl, rfl, rfl⟩ := hp
    have hG : gW X F V ((b, oB 32 [.ref wd, .int (zI iu), .int (zI 0)]) :: (wd, aL (gT X 1) 1 f) :: Z) s H locs := hG
    refine lv_iload_n hx hb dJ37_nextSetBit_35 rfl (lv_at hl 1 rfl) ?_
    refine g_ci (va_runS (As := [.int (zI (i : Int))]) (rest := []) ⟨hx, hb, hml, hown, hts⟩ (metJ37_wordIndex (i := i) (by omega)) (va_cwS 1 hts (lw_S q1800 q1801 q142 q1802) rfl rfl rfl (by decide +kernel) ⟨Nat.le_of_ble_eq_true rfl, Nat.le_of_ble_eq_true rfl⟩) (g_preS hG) rfl rfl hl.1 rfl (lv_room (Nat.le_of_ble_eq_true rfl)) dJ37_nextSetBit_36 ⟨Nat.le_of_ble_eq_true rfl, Nat.le_of_ble_eq_true rfl⟩) hG (fun r_4 F_5 V_6 ws_ H locs hp hG => ?_)
    obtain ⟨rfl, rfl, rfl, rfl⟩ := hp
    have hG : gW X F V ((b, oB 32 [.ref wd, .int (zI iu), .int (zI 0)]) :: (wd, aL (gT X 1) 1 f) :: Z) s H locs := hG
    refine lv_istore_n (lv' := [(2, .int (zI 0)), (0, .ref b), (1, .int (zI (i : Int)))]) hx hb dJ37_nextSetBit_39 rfl hl (by decide) rfl (fun ls hl => ?_)
    refine lv_iload_n hx hb dJ37_nextSetBit_40 rfl (lv_at hl 0 rfl) ?_
    refine lv_aload_n hx hb dJ37_nextSetBit_41 rfl (lv_at hl 1 rfl) ?_
    refine g_get (ci := 32) hx hb hts in_J37 hown hG (hG.at 0 rfl) rfl 1 (Nat.le_of_ble_eq_true rfl) (hts _ q1804) (fun _ h9 => h9) rfl dJ37_nextSetBit_42 ?_
    refine g_clt (tgt := 50) hx hb dJ37_nextSetBit_45 (by decide) (by omega) (fun h2 => ?_) (fun h2 => ?_)
    · refine lv_aload_n hx hb dJ37_nextSetBit_50 rfl (lv_at hl 1 rfl) ?_
      refine g_get (ci := 32) hx hb hts in_J37 hown hG (hG.at 0 rfl) rfl 0 (Nat.le_of_ble_eq_true rfl) (hts _ q1803) (fun _ h9 => h9) rfl dJ37_nextSetBit_51 ?_
      refine lv_iload_n hx hb dJ37_nextSetBit_54 rfl (lv_at hl 0 rfl) ?_
      refine g_lald hx hb hG (hG.at 1 rfl) 0 ⟨rfl, by omega, by omega⟩ (v := (lN x)) hb9.1 dJ37_nextSetBit_55 ?_
      refine lv_ldc2 (v := -1) hx hb hown (hts _ q1889) dJ37_nextSetBit_56 ?_
      refine lv_iload_n hx hb dJ37_nextSetBit_59 rfl (lv_at hl 2 rfl) ?_
      refine lv_lshl (v := ((-1 : Int64) <<< ((zI (i : Int)).toInt64 &&& 63))) hx hb dJ37_nextSetBit_60 rfl ?_
      refine g_topl (lN ((18446744073709551615 * 2 ^ i) % 2 ^ 64)) (shl_w (by omega)) ?_
      refine lv_land hx hb dJ37_nextSetBit_61 ?_
      refine g_topl (lN (x &&& ((18446744073709551615 * 2 ^ i) % 2 ^ 64))) (wb_and (by omega) (Nat.mod_lt _ (by decide))) ?_
      have h64 : (x &&& ((18446744073709551615 * 2 ^ i) % 2 ^ 64)) < 18446744073709551616 := Nat.and_lt_two_pow _ (show _ < 2 ^ 64 from Nat.mod_lt _ (by decide))
      refine lv_lstore_n (lv' := [(3, .long (lN (x &&& ((18446744073709551615 * 2 ^ i) % 2 ^ 64)))), (2, .int (zI 0)), (0, .ref b), (1, .int (zI (i : Int)))]) hx hb dJ37_nextSetBit_62 rfl hl (by decide) rfl (fun ls hl => ?_)
      refine lv_lload_n hx hb dJ37_nextSetBit_63 rfl (lv_at hl 0 rfl) ?_
      refine lv_lconst (v := zL 0) hx hb dJ37_nextSetBit_64 (by decide +kernel) ?_
      refine g_lcmp hx hb dJ37_nextSetBit_65 (fun zc_7 hzc_7 => ?_)
      refine g_eq (tgt := 79) hx hb dJ37_nextSetBit_66 (by decide) (zc_lt hzc_7) (fun h3 => ?_) (fun h3 => ?_)
      · have hnone : nxS x 32 i = none := by cases hq : nxS x 32 i with | none => rfl | some k => exact absurd ((lN_z h64).mp (zc_eq hzc_7 h3)) (by have := (low_set hx9 hi hq).1.pos; omega)
        refine lv_iinc (v := zI 1) (lv' := [(2, .int (zI 1)), (3, .long (lN (x &&& ((18446744073709551615 * 2 ^ i) % 2 ^ 64)))), (0, .ref b), (1, .int (zI (i : Int)))]) hx hb dJ37_nextSetBit_79 hl (k := 1) rfl ((zI_add _ _).trans (congrArg zI (by omega))) (by decide) rfl (fun ls hl => ?_)
        refine lv_iload_n hx hb dJ37_nextSetBit_82 rfl (lv_at hl 0 rfl) ?_
        refine lv_aload_n hx hb dJ37_nextSetBit_83 rfl (lv_at hl 2 rfl) ?_
        refine g_get (ci := 32) hx hb hts in_J37 hown hG (hG.at 0 rfl) rfl 1 (Nat.le_of_ble_eq_true rfl) (hts _ q1804) (fun _ h9 => h9) rfl dJ37_nextSetBit_84 ?_
        refine g_cne (tgt := 92) hx hb dJ37_nextSetBit_87 (by decide) (by omega) (fun h4 => ?_) (fun h4 => ?_)
        · exfalso; omega
        · refine lv_iconst (v := zI (-1)) hx hb dJ37_nextSetBit_90 (by decide +kernel) ?_
          exact g_iret hx hb hr hlocks hG (⟨by rw [hnone]; rfl, rfl, rfl, rfl⟩) ⟨Nat.le_of_ble_eq_true rfl, Nat.le_of_ble_eq_true rfl⟩ dJ37_nextSetBit_91
      · have hsome : ∃ k, nxS x 32 i = some k := by cases hq : nxS x 32 i with | some k => exact ⟨k, rfl⟩ | none => exact absurd ((lN_z h64).mpr (low_none hx9 hi hq)) (zc_ne hzc_7 h3)
        obtain ⟨k, hk9⟩ := hsome
        have hlow := low_set hx9 hi hk9
        refine lv_iload_n hx hb dJ37_nextSetBit_69 rfl (lv_at hl 1 rfl) ?_
        refine lv_bipush (v := zI 64) hx hb dJ37_nextSetBit_70 (by decide +kernel) ?_
        refine g_imul hx hb dJ37_nextSetBit_72 ?_
        refine g_topz (y := 0) (by omega) ?_
        refine lv_lload_n hx hb dJ37_nextSetBit_73 rfl (lv_at hl 0 rfl) ?_
        refine g_ci (va_runS (As := [.long (lN (x &&& ((18446744073709551615 * 2 ^ i) % 2 ^ 64)))]) (rest := [.int (zI 0)]) ⟨hx, hb, hml, hown, hts⟩ (metJ38_numberOfTrailingZeros (k := k) hlow.1 hlow.2) (va_cwS 1 hts (lw_S q1890 q1891 q143 q1892) rfl rfl rfl (by decide +kernel) ⟨Nat.le_of_ble_eq_true rfl, Nat.le_of_ble_eq_true rfl⟩) (g_preS hG) rfl rfl hl.1 rfl (lv_room (Nat.le_of_ble_eq_true rfl)) dJ37_nextSetBit_74 ⟨Nat.le_of_ble_eq_true rfl, Nat.le_of_ble_eq_true rfl⟩) hG (fun r_8 F_9 V_10 ws_ H locs hp hG => ?_)
        obtain ⟨rfl, rfl, rfl, rfl⟩ := hp
        have hG : gW X F V ((b, oB 32 [.ref wd, .int (zI iu), .int (zI 0)]) :: (wd, aL (gT X 1) 1 f) :: Z) s H locs := hG
        refine g_iadd hx hb dJ37_nextSetBit_77 ?_
        exact g_iret hx hb hr hlocks hG (⟨by rw [hk9, oI_some]; exact congrArg zI (by omega), rfl, rfl, rfl⟩) ⟨Nat.le_of_ble_eq_true rfl, Nat.le_of_ble_eq_true rfl⟩ dJ37_nextSetBit_78
    · refine lv_iconst (v := zI (-1)) hx hb dJ37_nextSetBit_48 (by decide +kernel) ?_
      exact g_iret hx hb hr hlocks hG (⟨by rw [show x = 0 from hb9.2.2.elim (fun q => q.2) (fun q => by omega), nxS_0]; rfl, rfl, rfl, rfl⟩) ⟨Nat.le_of_ble_eq_true rfl, Nat.le_of_ble_eq_true rfl⟩ dJ37_nextSetBit_49
  · exfalso; omega

set_option maxHeartbeats 4000000 in
theorem metJ37_cardinality {l : Launch} {X : gX} {F : gF} {V : gV} {Z : va_W} {b wd x : Nat} {iu : Int} {f : Nat → Int64} (hb9 : bsR x iu f) : Met l yJ37_cardinality (ws_ yJ37_cardinality cJ37_cardinality 3 (some FieldType.int)) ({ frames := 1, cells := 0, slots := 0, locals := 21 }) (gP X F V ((b, oB 32 [.ref wd, .int (zI iu), .int (zI 0)]) :: (wd, aL (gT X 1) 1 f) :: Z) [.ref b]) (gQi X (fun u G U ws => u = zI (bc x 32 : Int) ∧ F = G ∧ V = U ∧ ((b, oB 32 [.ref wd, .int (zI iu), .int (zI 0)]) :: (wd, aL (gT X 1) 1 f) :: Z) = ws)) 0 0 (gA X) := by
  refine Met.g (by decide) (Nat.le_of_ble_eq_true rfl) ?_
  intro p e s m below meth c ls hx hb hr hts hown hlocks hml hin hG hl
  have hl : lv_has ls 3 [(0, .ref b)] := hl
  have hx9 := hb9.2.1
  have hiu9 := hb9.2.2
  refine lv_iconst (v := zI 0) hx hb dJ37_cardinality_0 (by decide +kernel) ?_
  refine lv_istore_n (lv' := [(1, .int (zI 0)), (0, .ref b)]) hx hb dJ37_cardinality_1 rfl hl (by decide) rfl (fun ls hl => ?_)
  refine lv_iconst (v := zI 0) hx hb dJ37_cardinality_2 (by decide +kernel) ?_
  refine lv_istore_n (lv' := [(2, .int (zI 0)), (1, .int (zI 0)), (0, .ref b)]) hx hb dJ37_cardinality_3 rfl hl (by decide) rfl (fun ls hl => ?_)
  refine lv_iload_n hx hb dJ37_cardinality_4 rfl (lv_at hl 0 rfl) ?_
  refine lv_aload_n hx hb dJ37_cardinality_5 rfl (lv_at hl 2 rfl) ?_
  refine g_get (ci := 32) hx hb hts in_J37 hown hG (hG.at 0 rfl) rfl 1 (Nat.le_of_ble_eq_true rfl) (hts _ q1804) (fun _ h9 => h9) rfl dJ37_cardinality_6 ?_
  refine g_cge (tgt := 30) hx hb dJ37_cardinality_9 (by decide) (by omega) (fun h1 => ?_) (fun h1 => ?_)
  · refine lv_iload_n hx hb dJ37_cardinality_30 rfl (lv_at hl 1 rfl) ?_
    exact g_iret hx hb hr hlocks hG (⟨by rw [show x = 0 from hb9.2.2.elim (fun q => q.2) (fun q => by omega), bc_0]; rfl, rfl, rfl, rfl⟩) ⟨Nat.le_of_ble_eq_true rfl, Nat.le_of_ble_eq_true rfl⟩ dJ37_cardinality_31
  · have hiu : iu = 1 := hb9.2.2.elim (fun q => by omega) id
    refine lv_iload_n hx hb dJ37_cardinality_12 rfl (lv_at hl 1 rfl) ?_
    refine lv_aload_n hx hb dJ37_cardinality_13 rfl (lv_at hl 2 rfl) ?_
    refine g_get (ci := 32) hx hb hts in_J37 hown hG (hG.at 0 rfl) rfl 0 (Nat.le_of_ble_eq_true rfl) (hts _ q1803) (fun _ h9 => h9) rfl dJ37_cardinality_14 ?_
    refine lv_iload_n hx hb dJ37_cardinality_17 rfl (lv_at hl 0 rfl) ?_
    refine g_lald hx hb hG (hG.at 1 rfl) 0 ⟨rfl, by omega, by omega⟩ (v := (lN x)) hb9.1 dJ37_cardinality_18 ?_
    refine g_ci (va_runS (As := [.long (lN x)]) (rest := [.int (zI 0)]) ⟨hx, hb, hml, hown, hts⟩ (metJ38_bitCount hx9) (va_cwS 1 hts (lw_S q1874 q1875 q143 q1876) rfl rfl rfl (by decide +kernel) ⟨Nat.le_of_ble_eq_true rfl, Nat.le_of_ble_eq_true rfl⟩) (g_preS hG) rfl rfl hl.1 rfl (lv_room (Nat.le_of_ble_eq_true rfl)) dJ37_cardinality_19 ⟨Nat.le_of_ble_eq_true rfl, Nat.le_of_ble_eq_true rfl⟩) hG (fun r_1 F_2 V_3 ws_ H locs hp hG => ?_)
    obtain ⟨rfl, rfl, rfl, rfl⟩ := hp
    have hG : gW X F V ((b, oB 32 [.ref wd, .int (zI iu), .int (zI 0)]) :: (wd, aL (gT X 1) 1 f) :: Z) s H locs := hG
    refine g_iadd hx hb dJ37_cardinality_22 ?_
    refine lv_istore_n (lv' := [(1, .int (zI (0 + (bc x 32 : Int)))), (2, .int (zI 0)), (0, .ref b)]) hx hb dJ37_cardinality_23 rfl hl (by decide) rfl (fun ls hl => ?_)
    refine lv_iinc (v := zI 1) (lv' := [(2, .int (zI 1)), (1, .int (zI (0 + (bc x 32 : Int)))), (0, .ref b)]) hx hb dJ37_cardinality_24 hl (k := 1) rfl ((zI_add _ _).trans (congrArg zI (by omega))) (by decide) rfl (fun ls hl => ?_)
    refine lv_goto (tgt := 4) hx hb dJ37_cardinality_27 (by decide) ?_
    refine lv_iload_n hx hb dJ37_cardinality_4 rfl (lv_at hl 0 rfl) ?_
    refine lv_aload_n hx hb dJ37_cardinality_5 rfl (lv_at hl 2 rfl) ?_
    refine g_get (ci := 32) hx hb hts in_J37 hown hG (hG.at 0 rfl) rfl 1 (Nat.le_of_ble_eq_true rfl) (hts _ q1804) (fun _ h9 => h9) rfl dJ37_cardinality_6 ?_
    refine g_cge (tgt := 30) hx hb dJ37_cardinality_9 (by decide) (by omega) (fun h2 => ?_) (fun h2 => ?_)
    · refine lv_iload_n hx hb dJ37_cardinality_30 rfl (lv_at hl 1 rfl) ?_
      exact g_iret hx hb hr hlocks hG (⟨congrArg zI (by omega), rfl, rfl, rfl⟩) ⟨Nat.le_of_ble_eq_true rfl, Nat.le_of_ble_eq_true rfl⟩ dJ37_cardinality_31
    · exfalso; omega

