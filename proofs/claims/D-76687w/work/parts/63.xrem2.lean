set_option maxRecDepth 100000
theorem fSpan_1 {cf : Nat → Option Nat} {p : Nat} : fSpan cf p 1 = (cf p).map (fun x => (x, x)) := by
  unfold fSpan
  cases h : cf p with
  | none => rw [(fL_n (cf := cf) (p := p) (k := 0) h).1]; rfl
  | some x => obtain ⟨g1, g2, -⟩ := fL_0 (cf := cf) (p := p) (k := 0) h ⟨rfl, rfl⟩; rw [g1, g2]; rfl
set_option maxHeartbeats 4000000 in
theorem metX16_follows {l : Launch} {X : gX} {F : gF} {V : gV} {Z : va_W} {rm sp mt r pp qq : Nat} {ta tb : Tx} (hm : isMatch X F mt r ta tb) (h24 : ta.length ≤ 24 ∧ tb.length ≤ 24) (hpq : pp ≤ qq ∧ qq < ta.length) : Met l yX16_follows (ws_ yX16_follows cX16_follows 6 (some FieldType.boolean)) ({ frames := 1, cells := 0, slots := 0, locals := 22 }) (gP X F V ((sp, oB 22 [.int (zI (pp : Int)), .int (zI (qq : Int))]) :: Z) [.ref rm, .ref sp, .ref mt]) (gQi X (fun u G U ws => F = G ∧ V = U ∧ ((fSpan (mPlace ta tb r) pp (qq - pp + 1) = none ∧ u = zI 0 ∧ ((sp, oB 22 [.int (zI (pp : Int)), .int (zI (qq : Int))]) :: Z) = ws) ∨ (∃ x y : Nat, fSpan (mPlace ta tb r) pp (qq - pp + 1) = some (x, y) ∧ u = zI 1 ∧ ((sp, oB 22 [.int (zI (x : Int)), .int (zI (y : Int))]) :: Z) = ws)))) 0 0 (gA X) := by
  refine Met.g (by decide) (Nat.le_of_ble_eq_true rfl) ?_
  intro p e s m below meth c ls hx hb hr hts hown hlocks hml hin hG hl
  have hl : lv_has ls 6 [(0, .ref rm), (1, .ref sp), (2, .ref mt)] := hl
  have hmZ := hm
  obtain ⟨pl, fp, w5, w6, w7, w8, hm1, hm2, hm3⟩ := hmZ
  have hcf : ∀ i x, mPlace ta tb r i = some x → x < tb.length := fun i x h => (mPlace_lt h).2
  refine lv_aload_n hx hb dX16_follows_0 rfl (lv_at hl 2 rfl) ?_
  refine g_get (ci := 13) hx hb hts in_X15 hown hG (hG.fz hm1) rfl 1 (Nat.le_of_ble_eq_true rfl) (hts _ q1908) (fun _ h9 => h9) rfl dX16_follows_1 ?_
  refine lv_istore_n (lv' := [(3, .int (zI (tb.length : Int))), (0, .ref rm), (1, .ref sp), (2, .ref mt)]) hx hb dX16_follows_4 rfl hl (by decide) rfl (fun ls hl => ?_)
  refine lv_iconst (v := zI (-1)) hx hb dX16_follows_5 (by decide +kernel) ?_
  refine lv_istore (lv' := [(4, .int (zI (-1))), (3, .int (zI (tb.length : Int))), (0, .ref rm), (1, .ref sp), (2, .ref mt)]) hx hb dX16_follows_6 hl (by decide) rfl (fun ls hl => ?_)
  refine lv_aload_n hx hb dX16_follows_8 rfl (lv_at hl 3 rfl) ?_
  refine g_get (ci := 22) hx hb hts in_X24 hown hG (hG.at 0 rfl) rfl 0 (Nat.le_of_ble_eq_true rfl) (hts _ q2296) (fun _ h9 => h9) rfl dX16_follows_9 ?_
  refine lv_istore (lv' := [(5, .int (zI (pp : Int))), (4, .int (zI (-1))), (3, .int (zI (tb.length : Int))), (0, .ref rm), (1, .ref sp), (2, .ref mt)]) hx hb dX16_follows_12 hl (by decide) rfl (fun ls hl => ?_)
  have hl : lv_has ls 6 [(5, .int (zI ((pp + 0 : Nat) : Int))), (4, .int (zI (oI (fHigh (mPlace ta tb r) pp 0)))), (3, .int (zI (lowI tb.length (fLow (mPlace ta tb r) pp 0)))), (0, .ref rm), (1, .ref sp), (2, .ref mt)] := by exact hl
  refine g_loop (fun mz H locs ls => ∃ (k : Nat), (pp + k ≤ qq + 1 ∧ mz = qq + 1 - (pp + k)) ∧ gW X F V ((sp, oB 22 [.int (zI (pp : Int)), .int (zI (qq : Int))]) :: Z) s H locs ∧ lv_has ls 6 [(1, .ref sp), (2, .ref mt), (3, .int (zI (lowI tb.length (fLow (mPlace ta tb r) pp k)))), (4, .int (zI (oI (fHigh (mPlace ta tb r) pp k)))), (5, .int (zI ((pp + k : Nat) : Int)))]) (qq + 1 - (pp + 0)) ⟨0, ⟨by omega, rfl⟩, hG, (lv_sub hl [4, 5, 2, 1, 0] rfl)⟩ (fun mz ihA H locs ls hI => ?_)
  obtain ⟨k, ⟨hk, hmz⟩, hG, hl⟩ := hI
  obtain ⟨hc1, hc2⟩ := fL_cases hcf pp k
  rcases hc2 with ⟨g1, g2, g3⟩ | ⟨y, z, g1, g2, g3, g4, g5⟩
  · rw [g1, g2] at hl
    have hl : lv_has ls 6 [(1, .ref sp), (2, .ref mt), (3, .int (zI (tb.length : Int))), (4, .int (zI (-1))), (5, .int (zI ((pp + k : Nat) : Int)))] := hl
    refine lv_iload hx hb dX16_follows_14 (lv_at hl 4 rfl) ?_
    refine lv_aload_n hx hb dX16_follows_16 rfl (lv_at hl 0 rfl) ?_
    refine g_get (ci := 22) hx hb hts in_X24 hown hG (hG.at 0 rfl) rfl 1 (Nat.le_of_ble_eq_true rfl) (hts _ q2304) (fun _ h9 => h9) rfl dX16_follows_17 ?_
    refine g_cgt (tgt := 70) hx hb dX16_follows_20 (by decide) (by omega) (fun h1 => ?_) (fun h1 => ?_)
    · refine lv_iload hx hb dX16_follows_70 (lv_at hl 3 rfl) ?_
      refine lv_iconst (v := zI (-1)) hx hb dX16_follows_72 (by decide +kernel) ?_
      refine g_ceq (tgt := 83) hx hb dX16_follows_73 (by decide) (by omega) (fun h2 => ?_) (fun h2 => ?_)
      · refine lv_iload hx hb dX16_follows_83 (lv_at hl 3 rfl) ?_
        refine lv_iconst (v := zI (-1)) hx hb dX16_follows_85 (by decide +kernel) ?_
        refine g_ceq (tgt := 93) hx hb dX16_follows_86 (by decide) (by omega) (fun h3 => ?_) (fun h3 => ?_)
        · refine lv_iconst (v := zI 0) hx hb dX16_follows_93 (by decide +kernel) ?_
          exact g_zret hx hb hr hlocks rfl hG (⟨rfl, rfl, Or.inl ⟨by rw [show qq - pp + 1 = k by omega]; exact fSpan_n g1, rfl, rfl⟩⟩) ⟨Nat.le_of_ble_eq_true rfl, Nat.le_of_ble_eq_true rfl⟩ dX16_follows_94
        · exfalso; omega
      · exfalso; omega
    · refine lv_aload_n hx hb dX16_follows_23 rfl (lv_at hl 1 rfl) ?_
      refine g_get (ci := 13) hx hb hts in_X15 hown hG (hG.fz hm1) rfl 2 (Nat.le_of_ble_eq_true rfl) (hts _ q1912) (fun _ h9 => h9) rfl dX16_follows_24 ?_
      refine lv_iload hx hb dX16_follows_27 (lv_at hl 4 rfl) ?_
      rcases hcc : mPlace ta tb r (pp + k) with _ | x
      · have hpl : fp (pp + k) = zI (-1) := (hm3 (pp + k) (by omega)).trans (by rw [hcc]; rfl)
        refine g_iald hx hb hG (hG.fz hm2) (pp + k) ⟨rfl, by omega, by omega⟩ (v := zI (-1)) hpl dX16_follows_29 ?_
        refine lv_iconst (v := zI (-1)) hx hb dX16_follows_30 (by decide +kernel) ?_
        refine g_cne (tgt := 38) hx hb dX16_follows_31 (by decide) (by omega) (fun h4 => ?_) (fun h4 => ?_)
        · exfalso; omega
        · refine lv_iload_n hx hb dX16_follows_34 rfl (lv_at hl 2 rfl) ?_
          refine lv_goto (tgt := 49) hx hb dX16_follows_35 (by decide) ?_
          refine lv_istore_n (lv' := [(3, .int (zI (tb.length : Int))), (1, .ref sp), (2, .ref mt), (4, .int (zI (-1))), (5, .int (zI ((pp + k : Nat) : Int)))]) hx hb dX16_follows_49 rfl hl (by decide) rfl (fun ls hl => ?_)
          refine lv_iload hx hb dX16_follows_50 (lv_at hl 3 rfl) ?_
          refine lv_aload_n hx hb dX16_follows_52 rfl (lv_at hl 2 rfl) ?_
          refine g_get (ci := 13) hx hb hts in_X15 hown hG (hG.fz hm1) rfl 2 (Nat.le_of_ble_eq_true rfl) (hts _ q1912) (fun _ h9 => h9) rfl dX16_follows_53 ?_
          refine lv_iload hx hb dX16_follows_56 (lv_at hl 4 rfl) ?_
          refine g_iald hx hb hG (hG.fz hm2) (pp + k) ⟨rfl, by omega, by omega⟩ (v := zI (-1)) hpl dX16_follows_58 ?_
          refine g_max hx hb (hml.trans hl.1.symm) hts hown (hts _ q2408) ⟨Nat.le_of_ble_eq_true rfl, Nat.le_of_ble_eq_true rfl, Nat.le_of_ble_eq_true rfl, Nat.le_of_ble_eq_true rfl⟩ (by omega) dX16_follows_59 ?_
          refine lv_istore (lv' := [(4, .int (zI (max (-1) (-1)))), (3, .int (zI (tb.length : Int))), (1, .ref sp), (2, .ref mt), (5, .int (zI ((pp + k : Nat) : Int)))]) hx hb dX16_follows_62 hl (by decide) rfl (fun ls hl => ?_)
          have hlo1 : (tb.length : Int) = lowI tb.length (fLow (mPlace ta tb r) pp (k + 1)) := by rw [(fL_n hcc).1, g1]; show _ = (tb.length : Int); omega
          have hhi1 : (max (-1) (-1)) = oI (fHigh (mPlace ta tb r) pp (k + 1)) := by rw [(fL_n hcc).2.1, g2]; show _ = -1; omega
          have hl : lv_has ls 6 [(4, .int (zI (oI (fHigh (mPlace ta tb r) pp (k + 1))))), (3, .int (zI (lowI tb.length (fLow (mPlace ta tb r) pp (k + 1))))), (1, .ref sp), (2, .ref mt), (5, .int (zI ((pp + k : Nat) : Int)))] := by rw [← hlo1, ← hhi1]; exact hl
          refine lv_iinc (v := zI (((pp + k : Nat) : Int) + 1 : Int)) (lv' := [(5, .int (zI (((pp + k : Nat) : Int) + 1 : Int))), (4, .int (zI (oI (fHigh (mPlace ta tb r) pp (k + 1))))), (3, .int (zI (lowI tb.length (fLow (mPlace ta tb r) pp (k + 1))))), (1, .ref sp), (2, .ref mt)]) hx hb dX16_follows_64 hl (k := 4) rfl ((zI_add _ _).trans (congrArg zI (by omega))) (by decide) rfl (fun ls hl => ?_)
          refine lv_goto (tgt := 14) hx hb dX16_follows_67 (by decide) ?_
          have hl : lv_has ls 6 [(5, .int (zI ((pp + (k + 1) : Nat) : Int))), (4, .int (zI (oI (fHigh (mPlace ta tb r) pp (k + 1))))), (3, .int (zI (lowI tb.length (fLow (mPlace ta tb r) pp (k + 1))))), (1, .ref sp), (2, .ref mt)] := by exact hl
          exact ihA (qq + 1 - (pp + (k + 1))) (by omega) H locs ls ⟨(k + 1), ⟨by omega, rfl⟩, hG, (lv_sub hl [3, 4, 2, 1, 0] rfl)⟩
      · have hpl : fp (pp + k) = zI (x : Int) := (hm3 (pp + k) (by omega)).trans (by rw [hcc]; rfl)
        have hxl := hcf _ _ hcc
        refine g_iald hx hb hG (hG.fz hm2) (pp + k) ⟨rfl, by omega, by omega⟩ (v := zI (x : Int)) hpl dX16_follows_29 ?_
        refine lv_iconst (v := zI (-1)) hx hb dX16_follows_30 (by decide +kernel) ?_
        refine g_cne (tgt := 38) hx hb dX16_follows_31 (by decide) (by omega) (fun h4 => ?_) (fun h4 => ?_)
        · refine lv_iload_n hx hb dX16_follows_38 rfl (lv_at hl 2 rfl) ?_
          refine lv_aload_n hx hb dX16_follows_39 rfl (lv_at hl 1 rfl) ?_
          refine g_get (ci := 13) hx hb hts in_X15 hown hG (hG.fz hm1) rfl 2 (Nat.le_of_ble_eq_true rfl) (hts _ q1912) (fun _ h9 => h9) rfl dX16_follows_40 ?_
          refine lv_iload hx hb dX16_follows_43 (lv_at hl 4 rfl) ?_
          refine g_iald hx hb hG (hG.fz hm2) (pp + k) ⟨rfl, by omega, by omega⟩ (v := zI (x : Int)) hpl dX16_follows_45 ?_
          refine g_min hx hb (hml.trans hl.1.symm) hts hown (hts _ q2407) ⟨Nat.le_of_ble_eq_true rfl, Nat.le_of_ble_eq_true rfl, Nat.le_of_ble_eq_true rfl, Nat.le_of_ble_eq_true rfl⟩ (by omega) dX16_follows_46 ?_
          refine lv_istore_n (lv' := [(3, .int (zI (min (tb.length : Int) (x : Int)))), (1, .ref sp), (2, .ref mt), (4, .int (zI (-1))), (5, .int (zI ((pp + k : Nat) : Int)))]) hx hb dX16_follows_49 rfl hl (by decide) rfl (fun ls hl => ?_)
          refine lv_iload hx hb dX16_follows_50 (lv_at hl 3 rfl) ?_
          refine lv_aload_n hx hb dX16_follows_52 rfl (lv_at hl 2 rfl) ?_
          refine g_get (ci := 13) hx hb hts in_X15 hown hG (hG.fz hm1) rfl 2 (Nat.le_of_ble_eq_true rfl) (hts _ q1912) (fun _ h9 => h9) rfl dX16_follows_53 ?_
          refine lv_iload hx hb dX16_follows_56 (lv_at hl 4 rfl) ?_
          refine g_iald hx hb hG (hG.fz hm2) (pp + k) ⟨rfl, by omega, by omega⟩ (v := zI (x : Int)) hpl dX16_follows_58 ?_
          refine g_max hx hb (hml.trans hl.1.symm) hts hown (hts _ q2408) ⟨Nat.le_of_ble_eq_true rfl, Nat.le_of_ble_eq_true rfl, Nat.le_of_ble_eq_true rfl, Nat.le_of_ble_eq_true rfl⟩ (by omega) dX16_follows_59 ?_
          refine lv_istore (lv' := [(4, .int (zI (max (-1) (x : Int)))), (3, .int (zI (min (tb.length : Int) (x : Int)))), (1, .ref sp), (2, .ref mt), (5, .int (zI ((pp + k : Nat) : Int)))]) hx hb dX16_follows_62 hl (by decide) rfl (fun ls hl => ?_)
          have hlo2 : (min (tb.length : Int) (x : Int)) = lowI tb.length (fLow (mPlace ta tb r) pp (k + 1)) := by rw [(fL_0 hcc ⟨g1, g2⟩).1]; show _ = (x : Int); omega
          have hhi2 : (max (-1) (x : Int)) = oI (fHigh (mPlace ta tb r) pp (k + 1)) := by rw [(fL_0 hcc ⟨g1, g2⟩).2.1]; show _ = (x : Int); omega
          have hl : lv_has ls 6 [(4, .int (zI (oI (fHigh (mPlace ta tb r) pp (k + 1))))), (3, .int (zI (lowI tb.length (fLow (mPlace ta tb r) pp (k + 1))))), (1, .ref sp), (2, .ref mt), (5, .int (zI ((pp + k : Nat) : Int)))] := by rw [← hlo2, ← hhi2]; exact hl
          refine lv_iinc (v := zI (((pp + k : Nat) : Int) + 1 : Int)) (lv' := [(5, .int (zI (((pp + k : Nat) : Int) + 1 : Int))), (4, .int (zI (oI (fHigh (mPlace ta tb r) pp (k + 1))))), (3, .int (zI (lowI tb.length (fLow (mPlace ta tb r) pp (k + 1))))), (1, .ref sp), (2, .ref mt)]) hx hb dX16_follows_64 hl (k := 4) rfl ((zI_add _ _).trans (congrArg zI (by omega))) (by decide) rfl (fun ls hl => ?_)
          refine lv_goto (tgt := 14) hx hb dX16_follows_67 (by decide) ?_
          have hl : lv_has ls 6 [(5, .int (zI ((pp + (k + 1) : Nat) : Int))), (4, .int (zI (oI (fHigh (mPlace ta tb r) pp (k + 1))))), (3, .int (zI (lowI tb.length (fLow (mPlace ta tb r) pp (k + 1))))), (1, .ref sp), (2, .ref mt)] := by exact hl
          exact ihA (qq + 1 - (pp + (k + 1))) (by omega) H locs ls ⟨(k + 1), ⟨by omega, rfl⟩, hG, (lv_sub hl [3, 4, 2, 1, 0] rfl)⟩
        · exfalso; omega
  · rw [g1, g2] at hl
    have hl : lv_has ls 6 [(1, .ref sp), (2, .ref mt), (3, .int (zI (y : Int))), (4, .int (zI (z : Int))), (5, .int (zI ((pp + k : Nat) : Int)))] := hl
    refine lv_iload hx hb dX16_follows_14 (lv_at hl 4 rfl) ?_
    refine lv_aload_n hx hb dX16_follows_16 rfl (lv_at hl 0 rfl) ?_
    refine g_get (ci := 22) hx hb hts in_X24 hown hG (hG.at 0 rfl) rfl 1 (Nat.le_of_ble_eq_true rfl) (hts _ q2304) (fun _ h9 => h9) rfl dX16_follows_17 ?_
    refine g_cgt (tgt := 70) hx hb dX16_follows_20 (by decide) (by omega) (fun h1 => ?_) (fun h1 => ?_)
    · refine lv_iload hx hb dX16_follows_70 (lv_at hl 3 rfl) ?_
      refine lv_iconst (v := zI (-1)) hx hb dX16_follows_72 (by decide +kernel) ?_
      refine g_ceq (tgt := 83) hx hb dX16_follows_73 (by decide) (by omega) (fun h2 => ?_) (fun h2 => ?_)
      · exfalso; omega
      · refine lv_aload_n hx hb dX16_follows_76 rfl (lv_at hl 0 rfl) ?_
        refine lv_iload_n hx hb dX16_follows_77 rfl (lv_at hl 2 rfl) ?_
        refine lv_iload hx hb dX16_follows_78 (lv_at hl 3 rfl) ?_
        refine g_cv (va_runV (As := [.int (zI (y : Int)), .int (zI (z : Int))]) (rest := []) ⟨hx, hb, hml, hown, hts⟩ (metX24_is) (cwV 2 hts (lw_V q2409 q2360 q2361 q153 q2362) rfl rfl rfl (by decide +kernel) ⟨Nat.le_of_ble_eq_true rfl, Nat.le_of_ble_eq_true rfl⟩) (g_preV hG (g_recv hG (hG.at 0 rfl) (ci := 22) rfl)) rfl rfl hl.1 rfl (lv_room (Nat.le_of_ble_eq_true rfl)) dX16_follows_80 ⟨Nat.le_of_ble_eq_true rfl, Nat.le_of_ble_eq_true rfl⟩) hG (fun F_4 V_5 ws_ H locs hp hG => ?_)
        obtain ⟨rfl, rfl, rfl⟩ := hp
        have hG : gW X F V ((sp, oB 22 [.int (zI (y : Int)), .int (zI (z : Int))]) :: Z) s H locs := hG
        refine lv_iload hx hb dX16_follows_83 (lv_at hl 3 rfl) ?_
        refine lv_iconst (v := zI (-1)) hx hb dX16_follows_85 (by decide +kernel) ?_
        refine g_ceq (tgt := 93) hx hb dX16_follows_86 (by decide) (by omega) (fun h3 => ?_) (fun h3 => ?_)
        · exfalso; omega
        · refine lv_iconst (v := zI 1) hx hb dX16_follows_89 (by decide +kernel) ?_
          refine lv_goto (tgt := 94) hx hb dX16_follows_90 (by decide) ?_
          exact g_zret hx hb hr hlocks rfl hG (⟨rfl, rfl, Or.inr ⟨y, z, by rw [show qq - pp + 1 = k by omega]; exact fSpan_s g1 g2, rfl, rfl⟩⟩) ⟨Nat.le_of_ble_eq_true rfl, Nat.le_of_ble_eq_true rfl⟩ dX16_follows_94
    · refine lv_aload_n hx hb dX16_follows_23 rfl (lv_at hl 1 rfl) ?_
      refine g_get (ci := 13) hx hb hts in_X15 hown hG (hG.fz hm1) rfl 2 (Nat.le_of_ble_eq_true rfl) (hts _ q1912) (fun _ h9 => h9) rfl dX16_follows_24 ?_
      refine lv_iload hx hb dX16_follows_27 (lv_at hl 4 rfl) ?_
      rcases hcc : mPlace ta tb r (pp + k) with _ | x
      · have hpl : fp (pp + k) = zI (-1) := (hm3 (pp + k) (by omega)).trans (by rw [hcc]; rfl)
        refine g_iald hx hb hG (hG.fz hm2) (pp + k) ⟨rfl, by omega, by omega⟩ (v := zI (-1)) hpl dX16_follows_29 ?_
        refine lv_iconst (v := zI (-1)) hx hb dX16_follows_30 (by decide +kernel) ?_
        refine g_cne (tgt := 38) hx hb dX16_follows_31 (by decide) (by omega) (fun h4 => ?_) (fun h4 => ?_)
        · exfalso; omega
        · refine lv_iload_n hx hb dX16_follows_34 rfl (lv_at hl 2 rfl) ?_
          refine lv_goto (tgt := 49) hx hb dX16_follows_35 (by decide) ?_
          refine lv_istore_n (lv' := [(3, .int (zI (y : Int))), (1, .ref sp), (2, .ref mt), (4, .int (zI (z : Int))), (5, .int (zI ((pp + k : Nat) : Int)))]) hx hb dX16_follows_49 rfl hl (by decide) rfl (fun ls hl => ?_)
          refine lv_iload hx hb dX16_follows_50 (lv_at hl 3 rfl) ?_
          refine lv_aload_n hx hb dX16_follows_52 rfl (lv_at hl 2 rfl) ?_
          refine g_get (ci := 13) hx hb hts in_X15 hown hG (hG.fz hm1) rfl 2 (Nat.le_of_ble_eq_true rfl) (hts _ q1912) (fun _ h9 => h9) rfl dX16_follows_53 ?_
          refine lv_iload hx hb dX16_follows_56 (lv_at hl 4 rfl) ?_
          refine g_iald hx hb hG (hG.fz hm2) (pp + k) ⟨rfl, by omega, by omega⟩ (v := zI (-1)) hpl dX16_follows_58 ?_
          refine g_max hx hb (hml.trans hl.1.symm) hts hown (hts _ q2408) ⟨Nat.le_of_ble_eq_true rfl, Nat.le_of_ble_eq_true rfl, Nat.le_of_ble_eq_true rfl, Nat.le_of_ble_eq_true rfl⟩ (by omega) dX16_follows_59 ?_
          refine lv_istore (lv' := [(4, .int (zI (max (z : Int) (-1)))), (3, .int (zI (y : Int))), (1, .ref sp), (2, .ref mt), (5, .int (zI ((pp + k : Nat) : Int)))]) hx hb dX16_follows_62 hl (by decide) rfl (fun ls hl => ?_)
          have hlo6 : (y : Int) = lowI tb.length (fLow (mPlace ta tb r) pp (k + 1)) := by rw [(fL_n hcc).1, g1]; show _ = (y : Int); omega
          have hhi6 : (max (z : Int) (-1)) = oI (fHigh (mPlace ta tb r) pp (k + 1)) := by rw [(fL_n hcc).2.1, g2]; show _ = (z : Int); omega
          have hl : lv_has ls 6 [(4, .int (zI (oI (fHigh (mPlace ta tb r) pp (k + 1))))), (3, .int (zI (lowI tb.length (fLow (mPlace ta tb r) pp (k + 1))))), (1, .ref sp), (2, .ref mt), (5, .int (zI ((pp + k : Nat) : Int)))] := by rw [← hlo6, ← hhi6]; exact hl
          refine lv_iinc (v := zI (((pp + k : Nat) : Int) + 1 : Int)) (lv' := [(5, .int (zI (((pp + k : Nat) : Int) + 1 : Int))), (4, .int (zI (oI (fHigh (mPlace ta tb r) pp (k + 1))))), (3, .int (zI (lowI tb.length (fLow (mPlace ta tb r) pp (k + 1))))), (1, .ref sp), (2, .ref mt)]) hx hb dX16_follows_64 hl (k := 4) rfl ((zI_add _ _).trans (congrArg zI (by omega))) (by decide) rfl (fun ls hl => ?_)
          refine lv_goto (tgt := 14) hx hb dX16_follows_67 (by decide) ?_
          have hl : lv_has ls 6 [(5, .int (zI ((pp + (k + 1) : Nat) : Int))), (4, .int (zI (oI (fHigh (mPlace ta tb r) pp (k + 1))))), (3, .int (zI (lowI tb.length (fLow (mPlace ta tb r) pp (k + 1))))), (1, .ref sp), (2, .ref mt)] := by exact hl
          exact ihA (qq + 1 - (pp + (k + 1))) (by omega) H locs ls ⟨(k + 1), ⟨by omega, rfl⟩, hG, (lv_sub hl [3, 4, 2, 1, 0] rfl)⟩
      · have hpl : fp (pp + k) = zI (x : Int) := (hm3 (pp + k) (by omega)).trans (by rw [hcc]; rfl)
        have hxl := hcf _ _ hcc
        refine g_iald hx hb hG (hG.fz hm2) (pp + k) ⟨rfl, by omega, by omega⟩ (v := zI (x : Int)) hpl dX16_follows_29 ?_
        refine lv_iconst (v := zI (-1)) hx hb dX16_follows_30 (by decide +kernel) ?_
        refine g_cne (tgt := 38) hx hb dX16_follows_31 (by decide) (by omega) (fun h4 => ?_) (fun h4 => ?_)
        · refine lv_iload_n hx hb dX16_follows_38 rfl (lv_at hl 2 rfl) ?_
          refine lv_aload_n hx hb dX16_follows_39 rfl (lv_at hl 1 rfl) ?_
          refine g_get (ci := 13) hx hb hts in_X15 hown hG (hG.fz hm1) rfl 2 (Nat.le_of_ble_eq_true rfl) (hts _ q1912) (fun _ h9 => h9) rfl dX16_follows_40 ?_
          refine lv_iload hx hb dX16_follows_43 (lv_at hl 4 rfl) ?_
          refine g_iald hx hb hG (hG.fz hm2) (pp + k) ⟨rfl, by omega, by omega⟩ (v := zI (x : Int)) hpl dX16_follows_45 ?_
          refine g_min hx hb (hml.trans hl.1.symm) hts hown (hts _ q2407) ⟨Nat.le_of_ble_eq_true rfl, Nat.le_of_ble_eq_true rfl, Nat.le_of_ble_eq_true rfl, Nat.le_of_ble_eq_true rfl⟩ (by omega) dX16_follows_46 ?_
          refine lv_istore_n (lv' := [(3, .int (zI (min (y : Int) (x : Int)))), (1, .ref sp), (2, .ref mt), (4, .int (zI (z : Int))), (5, .int (zI ((pp + k : Nat) : Int)))]) hx hb dX16_follows_49 rfl hl (by decide) rfl (fun ls hl => ?_)
          refine lv_iload hx hb dX16_follows_50 (lv_at hl 3 rfl) ?_
          refine lv_aload_n hx hb dX16_follows_52 rfl (lv_at hl 2 rfl) ?_
          refine g_get (ci := 13) hx hb hts in_X15 hown hG (hG.fz hm1) rfl 2 (Nat.le_of_ble_eq_true rfl) (hts _ q1912) (fun _ h9 => h9) rfl dX16_follows_53 ?_
          refine lv_iload hx hb dX16_follows_56 (lv_at hl 4 rfl) ?_
          refine g_iald hx hb hG (hG.fz hm2) (pp + k) ⟨rfl, by omega, by omega⟩ (v := zI (x : Int)) hpl dX16_follows_58 ?_
          refine g_max hx hb (hml.trans hl.1.symm) hts hown (hts _ q2408) ⟨Nat.le_of_ble_eq_true rfl, Nat.le_of_ble_eq_true rfl, Nat.le_of_ble_eq_true rfl, Nat.le_of_ble_eq_true rfl⟩ (by omega) dX16_follows_59 ?_
          refine lv_istore (lv' := [(4, .int (zI (max (z : Int) (x : Int)))), (3, .int (zI (min (y : Int) (x : Int)))), (1, .ref sp), (2, .ref mt), (5, .int (zI ((pp + k : Nat) : Int)))]) hx hb dX16_follows_62 hl (by decide) rfl (fun ls hl => ?_)
          have hlo7 : (min (y : Int) (x : Int)) = lowI tb.length (fLow (mPlace ta tb r) pp (k + 1)) := by rw [(fL_1 hcc ⟨g1, g2⟩).1]; show _ = ((min y x : Nat) : Int); omega
          have hhi7 : (max (z : Int) (x : Int)) = oI (fHigh (mPlace ta tb r) pp (k + 1)) := by rw [(fL_1 hcc ⟨g1, g2⟩).2.1]; show _ = ((max z x : Nat) : Int); omega
          have hl : lv_has ls 6 [(4, .int (zI (oI (fHigh (mPlace ta tb r) pp (k + 1))))), (3, .int (zI (lowI tb.length (fLow (mPlace ta tb r) pp (k + 1))))), (1, .ref sp), (2, .ref mt), (5, .int (zI ((pp + k : Nat) : Int)))] := by rw [← hlo7, ← hhi7]; exact hl
          refine lv_iinc (v := zI (((pp + k : Nat) : Int) + 1 : Int)) (lv' := [(5, .int (zI (((pp + k : Nat) : Int) + 1 : Int))), (4, .int (zI (oI (fHigh (mPlace ta tb r) pp (k + 1))))), (3, .int (zI (lowI tb.length (fLow (mPlace ta tb r) pp (k + 1))))), (1, .ref sp), (2, .ref mt)]) hx hb dX16_follows_64 hl (k := 4) rfl ((zI_add _ _).trans (congrArg zI (by omega))) (by decide) rfl (fun ls hl => ?_)
          refine lv_goto (tgt := 14) hx hb dX16_follows_67 (by decide) ?_
          have hl : lv_has ls 6 [(5, .int (zI ((pp + (k + 1) : Nat) : Int))), (4, .int (zI (oI (fHigh (mPlace ta tb r) pp (k + 1))))), (3, .int (zI (lowI tb.length (fLow (mPlace ta tb r) pp (k + 1))))), (1, .ref sp), (2, .ref mt)] := by exact hl
          exact ihA (qq + 1 - (pp + (k + 1))) (by omega) H locs ls ⟨(k + 1), ⟨by omega, rfl⟩, hG, (lv_sub hl [3, 4, 2, 1, 0] rfl)⟩
        · exfalso; omega

