set_option maxRecDepth 100000
set_option maxHeartbeats 4000000 in
theorem metX14_fromFormer {l : Launch} {X : gX} {F : gF} {V : gV} {Z : va_W} {t f r : Nat} {w : aW} {ra la : Nat → Nat} (hR : xRv X F w ra la) (hK : wOK w) (ht9 : t < wN w) (hf : wFo w t = some f) (hr9 : 1 ≤ r ∧ r ≤ 9) : Met l yX14_fromFormer (ws_ yX14_fromFormer cX14_fromFormer 2 (some (FieldType.object "LineRemarks$Match"))) ({ frames := 6, cells := 33, slots := 790, locals := 137 }) (gP X F V (Z) [.ref (ra t), .int (zI (r : Int))]) (gQr X (fun u G U ws => gLe F G ∧ V = U ∧ isMatch X G u r (wTx w f) (wTx w t) ∧ Z = ws)) 33 790 (gA X) := by
  refine Met.g (by decide) (Nat.le_of_ble_eq_true rfl) ?_
  intro p e s m below meth c ls hx hb hr hts hown hlocks hml hin hG hl
  have hl : lv_has ls 2 [(0, .ref (ra t)), (1, .int (zI (r : Int)))] := hl
  have hft := hK.fo t f hf
  have hRt := hR t ht9
  have hRf := hR f (by omega)
  rw [hf] at hRt
  obtain ⟨vc, hat, hgc⟩ := hG.rv hRt.1
  rcases hgc with rfl | ⟨mc, fa, fi, r2, tx1, tx2, rfl, hr2, hia, hF2, htx1, htx2, hmc⟩
  · refine lv_aload_n hx hb dX14_fromFormer_0 rfl (lv_at hl 0 rfl) ?_
    refine g_get (ci := 12) hx hb hts in_X14 hown hG hat rfl 3 (Nat.le_of_ble_eq_true rfl) (hts _ q1729) (fun _ h9 => h9) rfl dX14_fromFormer_1 ?_
    refine lv_ifnullN (tgt := 18) hx hb dX14_fromFormer_4 (by decide) ?_
    refine lv_aload_n hx hb dX14_fromFormer_18 rfl (lv_at hl 0 rfl) ?_
    refine g_new (ci := 13) hx hb hts in_X15 tyX15 tyX15_ok hown (hts _ q2033) (hts _ q1785) (hts _ q141) hG rfl (fs := [.int (zI 0), .int (zI 0), .null, .int (zI 0), .int (zI 0), .null, .null, .null, .null]) rfl ⟨Nat.le_of_ble_eq_true rfl, Nat.le_of_ble_eq_true rfl⟩ dX14_fromFormer_19 (fun mt H (hG : gW X F V ((mt, oB 13 [.int (zI 0), .int (zI 0), .null, .int (zI 0), .int (zI 0), .null, .null, .null, .null]) :: Z) s H _) => ?_)
    refine lv_dup hx hb dX14_fromFormer_22 rfl ?_
    refine lv_aload_n hx hb dX14_fromFormer_23 rfl (lv_at hl 0 rfl) ?_
    obtain ⟨vc_1, hrvc_1, hgvc_1⟩ := hG.rv hRt.1
    refine g_get (ci := 12) hx hb hts in_X14 hown hG hrvc_1 rfl 1 (Nat.le_of_ble_eq_true rfl) (hts _ q1722) (fun _ h9 => h9) rfl dX14_fromFormer_24 ?_
    obtain ⟨vc_2, hrvc_2, hgvc_2⟩ := hG.rv hRf.1
    refine g_get (ci := 12) hx hb hts in_X14 hown hG hrvc_2 rfl 2 (Nat.le_of_ble_eq_true rfl) (hts _ q1725) (fun _ h9 => h9) rfl dX14_fromFormer_27 ?_
    refine lv_aload_n hx hb dX14_fromFormer_30 rfl (lv_at hl 0 rfl) ?_
    obtain ⟨vc_3, hrvc_3, hgvc_3⟩ := hG.rv hRt.1
    refine g_get (ci := 12) hx hb hts in_X14 hown hG hrvc_3 rfl 2 (Nat.le_of_ble_eq_true rfl) (hts _ q1725) (fun _ h9 => h9) rfl dX14_fromFormer_31 ?_
    refine lv_iload_n hx hb dX14_fromFormer_34 rfl (lv_at hl 1 rfl) ?_
    refine g_cv (va_runI (As := [.ref (la f), .ref (la t), .int (zI (r : Int))]) (rest := [.ref mt, .ref (ra t)]) ⟨hx, hb, hml, hown, hts⟩ (metX15_init hRf.2 hRt.2 hr9) (cwI 3 hts (lw_meth q1788) rfl rfl rfl (hts _ q141) (hts _ q2034) (hts _ q1787) rfl (by decide +kernel) ⟨Nat.le_of_ble_eq_true rfl, Nat.le_of_ble_eq_true rfl⟩) (g_preS hG) rfl rfl hl.1 rfl (lv_room (Nat.le_of_ble_eq_true rfl)) dX14_fromFormer_35 ⟨Nat.le_of_ble_eq_true rfl, Nat.le_of_ble_eq_true rfl⟩) hG (fun G1 V_5 ws_ H locs hp hG => ?_)
    obtain ⟨hle_G1, rfl, hmt, rfl⟩ := hp
    have hG : gW X G1 V (Z) s H locs := hG
    refine g_putR hx hb hts hown hG (hle_G1.2 _ _ hRt.1) (hts _ q1729) (fun _ h9 => h9) (Or.inr ⟨mt, ra f, _, r, wTx w f, wTx w t, rfl, by omega, rfl, hle_G1.2 _ _ hRf.1, hRf.2.mono hle_G1, hRt.2.mono hle_G1, hmt⟩) dX14_fromFormer_38 (fun H locs hat2 hG => ?_)
    have hG : gW X G1 V (Z) s H locs := hG
    refine lv_aload_n hx hb dX14_fromFormer_41 rfl (lv_at hl 0 rfl) ?_
    refine g_get (ci := 12) hx hb hts in_X14 hown hG hat2 rfl 3 (Nat.le_of_ble_eq_true rfl) (hts _ q1729) (fun _ h9 => h9) rfl dX14_fromFormer_42 ?_
    exact g_rret hx hb hr (Or.inl ⟨_, rfl⟩) hlocks hG (⟨hle_G1, rfl, hmt, rfl⟩) ⟨Nat.le_of_ble_eq_true rfl, Nat.le_of_ble_eq_true rfl⟩ dX14_fromFormer_45
  · have hfa : fa = ra f := (Option.some.inj hia).symm
    subst hfa
    have hfi : fi = (f, (wFo w f).map ra, la f) := Option.some.inj (hF2.symm.trans hRf.1)
    subst hfi
    have hta : tx1 = wTx w f := htx1.uniq hRf.2
    subst hta
    have htb : tx2 = wTx w t := htx2.uniq hRt.2
    subst htb
    have hmcA := hmc
    have hmZ := hmc
    obtain ⟨pl, fp, w5, w6, w7, w8, hm1, hm2, hm3⟩ := hmZ
    refine lv_aload_n hx hb dX14_fromFormer_0 rfl (lv_at hl 0 rfl) ?_
    refine g_get (ci := 12) hx hb hts in_X14 hown hG hat rfl 3 (Nat.le_of_ble_eq_true rfl) (hts _ q1729) (fun _ h9 => h9) rfl dX14_fromFormer_1 ?_
    refine lv_ifnull hx hb dX14_fromFormer_4 ?_
    refine lv_aload_n hx hb dX14_fromFormer_7 rfl (lv_at hl 0 rfl) ?_
    refine g_get (ci := 12) hx hb hts in_X14 hown hG hat rfl 3 (Nat.le_of_ble_eq_true rfl) (hts _ q1729) (fun _ h9 => h9) rfl dX14_fromFormer_8 ?_
    refine g_get (ci := 13) hx hb hts in_X15 hown hG (hG.fz hm1) rfl 0 (Nat.le_of_ble_eq_true rfl) (hts _ q1906) (fun _ h9 => h9) rfl dX14_fromFormer_11 ?_
    refine lv_iload_n hx hb dX14_fromFormer_14 rfl (lv_at hl 1 rfl) ?_
    refine g_ceq (tgt := 41) hx hb dX14_fromFormer_15 (by decide) (by omega) (fun h1 => ?_) (fun h1 => ?_)
    · have hrr : r2 = r := by omega
      subst hrr
      refine lv_aload_n hx hb dX14_fromFormer_41 rfl (lv_at hl 0 rfl) ?_
      refine g_get (ci := 12) hx hb hts in_X14 hown hG hat rfl 3 (Nat.le_of_ble_eq_true rfl) (hts _ q1729) (fun _ h9 => h9) rfl dX14_fromFormer_42 ?_
      exact g_rret hx hb hr (Or.inl ⟨_, rfl⟩) hlocks hG (⟨gLe.rfl (V := V), rfl, hmcA, rfl⟩) ⟨Nat.le_of_ble_eq_true rfl, Nat.le_of_ble_eq_true rfl⟩ dX14_fromFormer_45
    · refine lv_aload_n hx hb dX14_fromFormer_18 rfl (lv_at hl 0 rfl) ?_
      refine g_new (ci := 13) hx hb hts in_X15 tyX15 tyX15_ok hown (hts _ q2033) (hts _ q1785) (hts _ q141) hG rfl (fs := [.int (zI 0), .int (zI 0), .null, .int (zI 0), .int (zI 0), .null, .null, .null, .null]) rfl ⟨Nat.le_of_ble_eq_true rfl, Nat.le_of_ble_eq_true rfl⟩ dX14_fromFormer_19 (fun mt H (hG : gW X F V ((mt, oB 13 [.int (zI 0), .int (zI 0), .null, .int (zI 0), .int (zI 0), .null, .null, .null, .null]) :: Z) s H _) => ?_)
      refine lv_dup hx hb dX14_fromFormer_22 rfl ?_
      refine lv_aload_n hx hb dX14_fromFormer_23 rfl (lv_at hl 0 rfl) ?_
      obtain ⟨vc_6, hrvc_6, hgvc_6⟩ := hG.rv hRt.1
      refine g_get (ci := 12) hx hb hts in_X14 hown hG hrvc_6 rfl 1 (Nat.le_of_ble_eq_true rfl) (hts _ q1722) (fun _ h9 => h9) rfl dX14_fromFormer_24 ?_
      obtain ⟨vc_7, hrvc_7, hgvc_7⟩ := hG.rv hRf.1
      refine g_get (ci := 12) hx hb hts in_X14 hown hG hrvc_7 rfl 2 (Nat.le_of_ble_eq_true rfl) (hts _ q1725) (fun _ h9 => h9) rfl dX14_fromFormer_27 ?_
      refine lv_aload_n hx hb dX14_fromFormer_30 rfl (lv_at hl 0 rfl) ?_
      obtain ⟨vc_8, hrvc_8, hgvc_8⟩ := hG.rv hRt.1
      refine g_get (ci := 12) hx hb hts in_X14 hown hG hrvc_8 rfl 2 (Nat.le_of_ble_eq_true rfl) (hts _ q1725) (fun _ h9 => h9) rfl dX14_fromFormer_31 ?_
      refine lv_iload_n hx hb dX14_fromFormer_34 rfl (lv_at hl 1 rfl) ?_
      refine g_cv (va_runI (As := [.ref (la f), .ref (la t), .int (zI (r : Int))]) (rest := [.ref mt, .ref (ra t)]) ⟨hx, hb, hml, hown, hts⟩ (metX15_init hRf.2 hRt.2 hr9) (cwI 3 hts (lw_meth q1788) rfl rfl rfl (hts _ q141) (hts _ q2034) (hts _ q1787) rfl (by decide +kernel) ⟨Nat.le_of_ble_eq_true rfl, Nat.le_of_ble_eq_true rfl⟩) (g_preS hG) rfl rfl hl.1 rfl (lv_room (Nat.le_of_ble_eq_true rfl)) dX14_fromFormer_35 ⟨Nat.le_of_ble_eq_true rfl, Nat.le_of_ble_eq_true rfl⟩) hG (fun G1 V_10 ws_ H locs hp hG => ?_)
      obtain ⟨hle_G1, rfl, hmt, rfl⟩ := hp
      have hG : gW X G1 V (Z) s H locs := hG
      refine g_putR hx hb hts hown hG (hle_G1.2 _ _ hRt.1) (hts _ q1729) (fun _ h9 => h9) (Or.inr ⟨mt, ra f, _, r, wTx w f, wTx w t, rfl, by omega, rfl, hle_G1.2 _ _ hRf.1, hRf.2.mono hle_G1, hRt.2.mono hle_G1, hmt⟩) dX14_fromFormer_38 (fun H locs hat2 hG => ?_)
      have hG : gW X G1 V (Z) s H locs := hG
      refine lv_aload_n hx hb dX14_fromFormer_41 rfl (lv_at hl 0 rfl) ?_
      refine g_get (ci := 12) hx hb hts in_X14 hown hG hat2 rfl 3 (Nat.le_of_ble_eq_true rfl) (hts _ q1729) (fun _ h9 => h9) rfl dX14_fromFormer_42 ?_
      exact g_rret hx hb hr (Or.inl ⟨_, rfl⟩) hlocks hG (⟨hle_G1, rfl, hmt, rfl⟩) ⟨Nat.le_of_ble_eq_true rfl, Nat.le_of_ble_eq_true rfl⟩ dX14_fromFormer_45

