set_option maxRecDepth 100000
theorem looks_lk {w : aW} {l p q b : Nat} : looks w l p q b = lkX (wTx w l) (wTx w b) p q (wMar w) := rfl
theorem lkX_lt {t tb : Tx} {p q mar v : Nat} (h : lkX t tb p q mar = some v) : v < scN tb p q := by
  unfold lkX at h
  split at h
  · cases h
  · rename_i s' hs'
    split at h
    · cases h; exact bsS_some _ _ hs'
    · cases h
theorem opScore_s {a : aS} {v1 y1 n : Nat} {KK : Wk} {i : Int} (hb9 : beh (wFo (aWd a)) y1 (rOn (wRk (aWd a) v1)) = some (n + 1)) (hv : v1 < wM (aWd a)) (hy : y1 < wN (aWd a)) (hKK : KK = wkF (aWd a) v1 y1 (n + 1) n) : opScore a (v1 : Int) (y1 : Int) i = if ¬ (0 ≤ i ∧ i < (scN (wTx (aWd a) y1) (kLP KK) (kLQ KK) : Nat)) then aNoR a 5 else ((sc (wTx (aWd a) (kL KK)) (wTx (aWd a) y1) (kLP KK) (kLQ KK) i.toNat : Nat), a) := by
  subst hKK
  unfold opScore
  rw [if_neg (by omega), show beh (wFo (aWd a)) ((y1 : Nat) : Int).toNat (rOn (wRk (aWd a) ((v1 : Nat) : Int).toNat)) = some (n + 1) from hb9]
  rfl
theorem opLeast_s {a : aS} {v1 y1 n : Nat} {KK : Wk} (hb9 : beh (wFo (aWd a)) y1 (rOn (wRk (aWd a) v1)) = some (n + 1)) (hv : v1 < wM (aWd a)) (hy : y1 < wN (aWd a)) (hKK : KK = wkF (aWd a) v1 y1 (n + 1) n) : opLeast a (v1 : Int) (y1 : Int) = match lkX (wTx (aWd a) (kL KK)) (wTx (aWd a) y1) (kLP KK) (kLQ KK) (wMar (aWd a)) with
    | none => (-1, a)
    | some v => ((sc (wTx (aWd a) (kL KK)) (wTx (aWd a) y1) (kLP KK) (kLQ KK) v : Nat), a) := by
  subst hKK
  unfold opLeast
  rw [if_neg (by omega), show beh (wFo (aWd a)) ((y1 : Nat) : Int).toNat (rOn (wRk (aWd a) ((v1 : Nat) : Int).toNat)) = some (n + 1) from hb9]
  rfl
theorem wkF_lt {w : aW} {m t n d : Nat} (hK : wOK w) (hm : m < wM w) (ht : t < wN w) (hb : beh (wFo w) t (rOn (wRk w m)) = some n) (hd : d ≤ n) : kL (wkF w m t n d) < wN w ∧ kLP (wkF w m t n d) ≤ kLQ (wkF w m t n d) ∧ kLQ (wkF w m t n d) < (wTx w (kL (wkF w m t n d))).length := by
  have hr := hK.rk hm
  obtain ⟨hle, -, -⟩ := beh_anc hK.fo n t _ hb
  exact wkTo_lt hK ⟨hr.2.2.1, hr.2.2.2.1, hr.2.2.2.2.1⟩ (fun k hk => by have := hle k (by omega); omega) d hd
set_option maxHeartbeats 4000000 in
theorem metX0_contextOn_t {l : Launch} {X : gX} {F : gF} {V : gV} {Z : va_W} {x sa rf tr tb kl wa rv rk st : Nat} {sh ra la ma : Nat → Nat} {im : Option Nat} {a : aS} (hS : xS X F V x a sa rf tr tb kl wa rv rk st sh ra la ma im) (hA : aOK a) {v1 y1 : Nat} (hv9 : v1 < wM (aWd a)) (hy9 : y1 < wN (aWd a)) {n : Nat} (hb9 : beh (wFo (aWd a)) y1 (rOn (wRk (aWd a) v1)) = some (n + 1)) : Met l yX0_contextOn (ws_ yX0_contextOn cX0_contextOn 3 (some (FieldType.object "LineRemarks$Context"))) ({ frames := 10, cells := 552, slots := 13090, locals := 225 }) (gP X F V (Z) [.ref x, .ref (ma v1), .ref (ra y1)]) (gQr X (fun u G U ws => gLe F G ∧ V = U ∧ ∃ (cl7 : Nat) (al7 be7 : Option Nat), cxR X G cl7 al7 be7 (wTx (aWd a) (kL (wkF (aWd a) v1 y1 (n + 1) n))) (kLP (wkF (aWd a) v1 y1 (n + 1) n)) (kLQ (wkF (aWd a) v1 y1 (n + 1) n)) ∧ ((u, oB 23 [.ref cl7, va_rf al7, va_rf be7]) :: Z) = ws)) 552 13090 (gA X) := by
  refine Met.g (by decide) (Nat.le_of_ble_eq_true rfl) ?_
  intro p e s m below meth c ls hx hb hr hts hown hlocks hml hin hG hl
  have hl : lv_has ls 3 [(0, .ref x), (1, .ref (ma v1)), (2, .ref (ra y1))] := hl
  have hSA := hS
  obtain ⟨hx0, ⟨fs9, hx1, hsh⟩, ⟨gr9, hx2, hgr⟩, hx3, hx4, hW, hx6, hx7⟩ := hSA
  have hSA := hS
  have hK := hA.w
  have hNN := hK.n
  have hMM := hK.m
  obtain ⟨hw0, ⟨fR, hw1, hwR⟩, ⟨fM, hw2, hwM⟩, ⟨fS, hw3, hwS⟩, hR, hMk⟩ := id hW
  have hw0 : V 4 = some (wa, oB 2 [.int (zI (wN (aWd a) : Int)), .int (zI (wM (aWd a) : Int)), .int (zI (wRun (aWd a) : Int)), .int (zI (wNeed (aWd a) : Int)), .int (zI (wMar (aWd a) : Int)), .int (wSeed (aWd a)), .ref rv, .ref rk, .ref st]) := hw0
  have hw1 : V 5 = some (rv, aR (gT X 7) 16 fR) := hw1
  have hw2 : V 6 = some (rk, aR (gT X 8) 16 fM) := hw2
  have hw3 : V 7 = some (st, aI (gT X 5) 16 fS) := hw3
  have hrkv1 := hK.rk (m := v1) (by omega)
  have hrmv1 := hMk v1 (by omega)
  have hkdv1 := hrkv1.1
  have hlny1 : aLn a ((y1 : Nat) : Int) = ((wTx (aWd a) y1).length : Nat) := rfl
  have h24y1 := (hK.tx (r := y1) (by omega)).1
  refine lv_aload_n hx hb dX0_contextOn_0 rfl (lv_at hl 2 rfl) ?_
  refine lv_aload_n hx hb dX0_contextOn_1 rfl (lv_at hl 1 rfl) ?_
  refine g_rmget hx hb hkdv1 hts hown hG (hG.fz hrmv1) 2 (by decide) (hts _ q2084) rfl dX0_contextOn_2 ?_
  refine g_ci (va_runV (As := [.ref (ra (rOn (wRk (aWd a) v1)))]) (rest := []) ⟨hx, hb, hml, hown, hts⟩ (metX14_isBehind hR hK (by omega) hrkv1.2.2.1) (cwV 1 hts (lw_V q1952 q1953 q1954 q140 q1955) rfl rfl rfl (by decide +kernel) ⟨Nat.le_of_ble_eq_true rfl, Nat.le_of_ble_eq_true rfl⟩) (g_preV hG (rev_recv hG (hR y1 (by omega)).1)) rfl rfl hl.1 rfl (lv_room (Nat.le_of_ble_eq_true rfl)) dX0_contextOn_5 ⟨by show _ ≤ 552; omega, by show _ ≤ 13090; omega⟩) hG (fun r_1 F_2 V_3 ws_ H locs hp hG => ?_)
  obtain ⟨rfl, rfl, rfl, rfl⟩ := hp
  have hG : gW X F V (Z) s H locs := hG
  refine g_topz (y := 1) (by rw [hb9]; rfl) ?_
  refine g_eq (tgt := 23) hx hb dX0_contextOn_8 (by decide) (by decide) (fun hq => ?_) (fun hq => ?_)
  · exfalso; omega
  · refine lv_aload_n hx hb dX0_contextOn_11 rfl (lv_at hl 2 rfl) ?_
    refine lv_aload_n hx hb dX0_contextOn_12 rfl (lv_at hl 1 rfl) ?_
    refine g_rmget hx hb hkdv1 hts hown hG (hG.fz hrmv1) 2 (by decide) (hts _ q2084) rfl dX0_contextOn_13 ?_
    refine lv_acmp_eq (rx := (some (ra y1))) (ry := (some (ra (rOn (wRk (aWd a) v1))))) (tgt := 23) hx hb dX0_contextOn_16 (by decide) (fun h2 => ?_) (fun h2 => ?_)
    · exact absurd (hR.inj (by omega) hrkv1.2.2.1 (Option.some.inj h2)) (fun q => by rw [q, beh_self] at hb9; cases hb9)
    · refine lv_iconst (v := zI 1) hx hb dX0_contextOn_19 (by decide +kernel) ?_
      refine lv_goto (tgt := 24) hx hb dX0_contextOn_20 (by decide) ?_
      refine lv_bipush (v := zI (-6)) hx hb dX0_contextOn_24 (by decide +kernel) ?_
      refine g_cv (va_runS (As := [.int (zI 1), .int (zI (-6))]) (rest := []) ⟨hx, hb, hml, hown, hts⟩ (metX0_need_t (b := 1) (by decide)) (va_cwS 2 hts (lw_S q520 q521 q87 q522) rfl rfl rfl (by decide +kernel) ⟨Nat.le_of_ble_eq_true rfl, Nat.le_of_ble_eq_true rfl⟩) (g_preS hG) rfl rfl hl.1 rfl (lv_room (Nat.le_of_ble_eq_true rfl)) dX0_contextOn_26 ⟨by show _ ≤ 552; omega, by show _ ≤ 13090; omega⟩) hG (fun F_5 V_6 ws_ H locs hp hG => ?_)
      obtain ⟨rfl, rfl, rfl⟩ := hp
      have hG : gW X F V (Z) s H locs := hG
      refine g_new (ci := 21) hx hb hts in_X23 tyX23 tyX23_ok hown (hts _ q2280) (hts _ q2281) (hts _ q152) hG rfl (fs := [.null, .null, .null, .null, .null, .int (zI 0)]) rfl ⟨Nat.le_of_ble_eq_true rfl, Nat.le_of_ble_eq_true rfl⟩ dX0_contextOn_29 (fun wk H (hG : gW X F V ((wk, oB 21 [.null, .null, .null, .null, .null, .int (zI 0)]) :: Z) s H _) => ?_)
      refine lv_dup hx hb dX0_contextOn_32 rfl ?_
      refine lv_aload_n hx hb dX0_contextOn_33 rfl (lv_at hl 0 rfl) ?_
      refine g_get (ci := 0) hx hb hts in_X0 hown hG (hG.vo hx0) rfl 4 (Nat.le_of_ble_eq_true rfl) (hts _ q388) (fun _ h9 => h9) rfl dX0_contextOn_34 ?_
      refine g_cv (va_runI (As := [.ref wa]) (rest := [.ref wk]) ⟨hx, hb, hml, hown, hts⟩ (metX23_init) (cwI 1 hts (lw_meth q2284) rfl rfl rfl (hts _ q152) (hts _ q2282) (hts _ q2283) rfl (by decide +kernel) ⟨Nat.le_of_ble_eq_true rfl, Nat.le_of_ble_eq_true rfl⟩) (g_preS hG) rfl rfl hl.1 rfl (lv_room (Nat.le_of_ble_eq_true rfl)) dX0_contextOn_37 ⟨by show _ ≤ 552; omega, by show _ ≤ 13090; omega⟩) hG (fun F_8 V_9 ws_ H locs hp hG => ?_)
      obtain ⟨rfl, rfl, sp, cx, cl, rfl⟩ := hp
      have hG : gW X F V ((wk, oB 21 [.ref sp, .ref cx, .ref wa, .null, .null, .int (zI 0)]) :: (sp, oB 22 [.int (zI 0), .int (zI 0)]) :: (cx, oB 23 [.ref cl, .null, .null]) :: Z) s H locs := hG
      refine lv_aload_n hx hb dX0_contextOn_40 rfl (lv_at hl 1 rfl) ?_
      refine lv_aload_n hx hb dX0_contextOn_41 rfl (lv_at hl 2 rfl) ?_
      refine g_cr (va_runV (As := [.ref (ma v1), .ref (ra y1)]) (rest := []) ⟨hx, hb, hml, hown, hts⟩ (metX23_aheadOf (t := y1) (n := n) (p9 := 0) (q9 := 0) (al := none) (be := none) (v3 := .null) (v4 := .null) (h9 := 0) hR hK hW.1 hrmv1 hkdv1 ⟨hrkv1.2.1, hrkv1.2.2.1, hrkv1.2.2.2.1, hrkv1.2.2.2.2.1⟩ (by omega) hb9) (cwV 2 hts (lw_V q2472 q2473 q2474 q152 q2475) rfl rfl rfl (by decide +kernel) ⟨Nat.le_of_ble_eq_true rfl, Nat.le_of_ble_eq_true rfl⟩) (g_preV hG (g_recv hG (hG.at 0 rfl) (ci := 21) rfl)) rfl rfl hl.1 rfl (lv_room (Nat.le_of_ble_eq_true rfl)) dX0_contextOn_42 ⟨by show _ ≤ 552; omega, by show _ ≤ 13090; omega⟩) hG (fun r_10 G1 V_11 ws_ H locs hp hG => ?_)
      obtain ⟨hle_G1, rfl, hu, cl7, al7, be7, hcx7, rfl⟩ := hp
      obtain rfl : cx = r_10 := hu.symm
      have hG : gW X G1 V ((cx, oB 23 [.ref cl7, va_rf al7, va_rf be7]) :: Z) s H locs := hG
      exact g_rret hx hb hr (Or.inl ⟨_, rfl⟩) hlocks hG (⟨hle_G1, rfl, cl7, al7, be7, hcx7, rfl⟩) ⟨by show _ ≤ 552; omega, by show _ ≤ 13090; omega⟩ dX0_contextOn_45

set_option maxHeartbeats 4000000 in
theorem metX0_contextOn_f {l : Launch} {X : gX} {F : gF} {V : gV} {Z : va_W} {x sa rf tr tb kl wa rv rk st : Nat} {sh ra la ma : Nat → Nat} {im : Option Nat} {a : aS} (hS : xS X F V x a sa rf tr tb kl wa rv rk st sh ra la ma im) (hA : aOK a) {v1 y1 : Nat} (hv9 : v1 < wM (aWd a)) (hy9 : y1 < wN (aWd a)) (hb6 : beh (wFo (aWd a)) y1 (rOn (wRk (aWd a) v1)) = none ∨ beh (wFo (aWd a)) y1 (rOn (wRk (aWd a) v1)) = some 0) : vx_Met l yX0_contextOn (ws_ yX0_contextOn cX0_contextOn 3 (some (FieldType.object "LineRemarks$Context"))) ({ frames := 5, cells := 1, slots := 7, locals := 110 }) (gP X F V (Z) [.ref x, .ref (ma v1), .ref (ra y1)]) (gQr X (fun _ _ _ _ => False)) (gXc X (fun E q G U ws => E = "LineRemarks$Refused" ∧ gLe F G ∧ isRef G q 6 ∧ V = U ∧ Z = ws)) 1 7 (gA X) := by
  refine vx_Met.g (by decide) (Nat.le_of_ble_eq_true rfl) ?_
  intro p e s m below meth c ls hx hb hr hts hown hlocks hml hin hnt hG hl
  have hl : lv_has ls 3 [(0, .ref x), (1, .ref (ma v1)), (2, .ref (ra y1))] := hl
  have hSA := hS
  obtain ⟨hx0, ⟨fs9, hx1, hsh⟩, ⟨gr9, hx2, hgr⟩, hx3, hx4, hW, hx6, hx7⟩ := hSA
  have hSA := hS
  have hK := hA.w
  have hNN := hK.n
  have hMM := hK.m
  obtain ⟨hw0, ⟨fR, hw1, hwR⟩, ⟨fM, hw2, hwM⟩, ⟨fS, hw3, hwS⟩, hR, hMk⟩ := id hW
  have hw0 : V 4 = some (wa, oB 2 [.int (zI (wN (aWd a) : Int)), .int (zI (wM (aWd a) : Int)), .int (zI (wRun (aWd a) : Int)), .int (zI (wNeed (aWd a) : Int)), .int (zI (wMar (aWd a) : Int)), .int (wSeed (aWd a)), .ref rv, .ref rk, .ref st]) := hw0
  have hw1 : V 5 = some (rv, aR (gT X 7) 16 fR) := hw1
  have hw2 : V 6 = some (rk, aR (gT X 8) 16 fM) := hw2
  have hw3 : V 7 = some (st, aI (gT X 5) 16 fS) := hw3
  have hrkv1 := hK.rk (m := v1) (by omega)
  have hrmv1 := hMk v1 (by omega)
  have hkdv1 := hrkv1.1
  have hlny1 : aLn a ((y1 : Nat) : Int) = ((wTx (aWd a) y1).length : Nat) := rfl
  have h24y1 := (hK.tx (r := y1) (by omega)).1
  refine lv_aload_n hx hb dX0_contextOn_0 rfl (lv_at hl 2 rfl) ?_
  refine lv_aload_n hx hb dX0_contextOn_1 rfl (lv_at hl 1 rfl) ?_
  refine g_rmget hx hb hkdv1 hts hown hG (hG.fz hrmv1) 2 (by decide) (hts _ q2084) rfl dX0_contextOn_2 ?_
  refine g_ci (va_runV (As := [.ref (ra (rOn (wRk (aWd a) v1)))]) (rest := []) ⟨hx, hb, hml, hown, hts⟩ (metX14_isBehind hR hK (by omega) hrkv1.2.2.1) (cwV 1 hts (lw_V q1952 q1953 q1954 q140 q1955) rfl rfl rfl (by decide +kernel) ⟨Nat.le_of_ble_eq_true rfl, Nat.le_of_ble_eq_true rfl⟩) (g_preV hG (rev_recv hG (hR y1 (by omega)).1)) rfl rfl hl.1 rfl (lv_room (Nat.le_of_ble_eq_true rfl)) dX0_contextOn_5 ⟨Nat.le_of_ble_eq_true rfl, Nat.le_of_ble_eq_true rfl⟩) hG (fun r_1 F_2 V_3 ws_ H locs hp hG => ?_)
  obtain ⟨rfl, rfl, rfl, rfl⟩ := hp
  have hG : gW X F V (Z) s H locs := hG
  rcases hb6 with hb9 | hb9
  · refine g_topz (y := 0) (by rw [hb9]; rfl) ?_
    refine g_eq (tgt := 23) hx hb dX0_contextOn_8 (by decide) (by decide) (fun hq => ?_) (fun hq => ?_)
    · refine lv_iconst (v := zI 0) hx hb dX0_contextOn_23 (by decide +kernel) ?_
      refine lv_bipush (v := zI (-6)) hx hb dX0_contextOn_24 (by decide +kernel) ?_
      refine g_xv (vx_runS (As := [.int (zI 0), .int (zI (-6))]) (rest := []) ⟨hx, hb, hml, hown, hts⟩ (metX0_need_f (k := 6)) (va_cwS 2 hts (lw_S q520 q521 q87 q522) rfl rfl rfl (by decide +kernel) ⟨Nat.le_of_ble_eq_true rfl, Nat.le_of_ble_eq_true rfl⟩) (g_preS hG) rfl rfl hl.1 rfl (lv_room (Nat.le_of_ble_eq_true rfl)) dX0_contextOn_26 ⟨Nat.le_of_ble_eq_true rfl, Nat.le_of_ble_eq_true rfl⟩) hG (fun E9 ce9 q9 Fx_7 Vx_8 ws_ H locs hpx hG hce => ?_) (fun F_5 V_6 ws_ H locs hp hG => ?_)
      · obtain ⟨rfl, hle_Fx_7, hq9, rfl, rfl⟩ := hpx
        have hG : gW X Fx_7 V (Z) s H locs := hG
        exact g_out hown hlocks (fun z9 hz9 => (hnt z9 hz9).elim) hG hce (⟨rfl, hle_Fx_7, hq9, rfl, rfl⟩) ⟨Nat.le_of_ble_eq_true rfl, Nat.le_of_ble_eq_true rfl⟩
      exact hp.elim
    · exfalso; omega
  · refine g_topz (y := 1) (by rw [hb9]; rfl) ?_
    have hyo : y1 = rOn (wRk (aWd a) v1) := (beh_anc hK.fo 0 y1 _ hb9).2.2
    refine g_eq (tgt := 23) hx hb dX0_contextOn_8 (by decide) (by decide) (fun hq => ?_) (fun hq => ?_)
    · exfalso; omega
    · refine lv_aload_n hx hb dX0_contextOn_11 rfl (lv_at hl 2 rfl) ?_
      refine lv_aload_n hx hb dX0_contextOn_12 rfl (lv_at hl 1 rfl) ?_
      refine g_rmget hx hb hkdv1 hts hown hG (hG.fz hrmv1) 2 (by decide) (hts _ q2084) rfl dX0_contextOn_13 ?_
      refine lv_acmp_eq (rx := (some (ra y1))) (ry := (some (ra (rOn (wRk (aWd a) v1))))) (tgt := 23) hx hb dX0_contextOn_16 (by decide) (fun h2 => ?_) (fun h2 => ?_)
      · refine lv_iconst (v := zI 0) hx hb dX0_contextOn_23 (by decide +kernel) ?_
        refine lv_bipush (v := zI (-6)) hx hb dX0_contextOn_24 (by decide +kernel) ?_
        refine g_xv (vx_runS (As := [.int (zI 0), .int (zI (-6))]) (rest := []) ⟨hx, hb, hml, hown, hts⟩ (metX0_need_f (k := 6)) (va_cwS 2 hts (lw_S q520 q521 q87 q522) rfl rfl rfl (by decide +kernel) ⟨Nat.le_of_ble_eq_true rfl, Nat.le_of_ble_eq_true rfl⟩) (g_preS hG) rfl rfl hl.1 rfl (lv_room (Nat.le_of_ble_eq_true rfl)) dX0_contextOn_26 ⟨Nat.le_of_ble_eq_true rfl, Nat.le_of_ble_eq_true rfl⟩) hG (fun E9 ce9 q9 Fx_12 Vx_13 ws_ H locs hpx hG hce => ?_) (fun F_10 V_11 ws_ H locs hp hG => ?_)
        · obtain ⟨rfl, hle_Fx_12, hq9, rfl, rfl⟩ := hpx
          have hG : gW X Fx_12 V (Z) s H locs := hG
          exact g_out hown hlocks (fun z9 hz9 => (hnt z9 hz9).elim) hG hce (⟨rfl, hle_Fx_12, hq9, rfl, rfl⟩) ⟨Nat.le_of_ble_eq_true rfl, Nat.le_of_ble_eq_true rfl⟩
        exact hp.elim
      · exact absurd (by rw [← hyo]) h2

set_option maxHeartbeats 4000000 in
theorem metX0_score {l : Launch} {X : gX} {F : gF} {V : gV} {Z : va_W} {x sa rf tr tb kl wa rv rk st : Nat} {sh ra la ma : Nat → Nat} {im : Option Nat} {a : aS} (hS : xS X F V x a sa rf tr tb kl wa rv rk st sh ra la ma im) (hA : aOK a) (hst : l.stackTraces = false) {v y i : Int} (hrv : (-2147483648 ≤ v ∧ v < 2147483648)) (hry : (-2147483648 ≤ y ∧ y < 2147483648)) (hri : (-2147483648 ≤ i ∧ i < 2147483648)) : vx_Met l yX0_score (wsW_ yX0_score cX0_score 7 (some FieldType.int) [(0, 53, 54, 21)]) ({ frames := 11, cells := 560, slots := 13200, locals := 247 }) (gP X F V (Z) [.ref x, .int (zI v), .int (zI y), .int (zI i)]) (gQi X (fun u G U ws => gLe F G ∧ u = zI (opScore a v y i).1 ∧ xX X G U x (opScore a v y i).2 ∧ Z = ws)) (gXc X (fun _ _ _ _ _ => False)) 560 13200 (gA X) := by
  refine vx_Met.gH (by decide) (Nat.le_of_ble_eq_true rfl) ?_
  intro p e s m below meth c ls hx hb hr hts hown hlocks hml hin htab hG hl
  have hl : lv_has ls 7 [(0, .ref x), (1, .int (zI v)), (2, .int (zI y)), (3, .int (zI i))] := hl
  have hSA := hS
  obtain ⟨hx0, ⟨fs9, hx1, hsh⟩, ⟨gr9, hx2, hgr⟩, hx3, hx4, hW, hx6, hx7⟩ := hSA
  have hSA := hS
  have hK := hA.w
  have hNN := hK.n
  have hMM := hK.m
  obtain ⟨hw0, ⟨fR, hw1, hwR⟩, ⟨fM, hw2, hwM⟩, ⟨fS, hw3, hwS⟩, hR, hMk⟩ := id hW
  have hw0 : V 4 = some (wa, oB 2 [.int (zI (wN (aWd a) : Int)), .int (zI (wM (aWd a) : Int)), .int (zI (wRun (aWd a) : Int)), .int (zI (wNeed (aWd a) : Int)), .int (zI (wMar (aWd a) : Int)), .int (wSeed (aWd a)), .ref rv, .ref rk, .ref st]) := hw0
  have hw1 : V 5 = some (rv, aR (gT X 7) 16 fR) := hw1
  have hw2 : V 6 = some (rk, aR (gT X 8) 16 fM) := hw2
  have hw3 : V 7 = some (st, aI (gT X 5) 16 fS) := hw3
  refine lv_aload_n hx hb dX0_score_0 rfl (lv_at hl 0 rfl) ?_
  refine lv_iload_n hx hb dX0_score_1 rfl (lv_at hl 1 rfl) ?_
  by_cases hcv : 0 ≤ v ∧ v < wM (aWd a)
  · obtain ⟨v1, rfl⟩ : ∃ z : Nat, v = (z : Int) := ⟨v.toNat, by omega⟩
    refine g_cr (va_runV (As := [.int (zI (v1 : Int))]) (rest := []) ⟨hx, hb, hml, hown, hts⟩ (metX0_told_t (r := v1) hS hA (by omega)) (cwV 1 hts (lw_V q700 q702 qs3 q87 q703) rfl rfl rfl (by decide +kernel) ⟨Nat.le_of_ble_eq_true rfl, Nat.le_of_ble_eq_true rfl⟩) (g_preV hG (g_recv hG (hG.vo hx0) (ci := 0) rfl)) rfl rfl hl.1 rfl (lv_room (Nat.le_of_ble_eq_true rfl)) dX0_score_2 ⟨by show _ ≤ 560; omega, by show _ ≤ 13200; omega⟩) hG (fun r_1 F_2 V_3 ws_ H locs hp hG => ?_)
    obtain ⟨rfl, rfl, rfl, rfl⟩ := hp
    have hG : gW X F V (Z) s H locs := hG
    have hrkv1 := hK.rk (m := v1) (by omega)
    have hrmv1 := hMk v1 (by omega)
    have hkdv1 := hrkv1.1
    refine lv_astore (lv' := [(4, .ref (ma v1)), (0, .ref x), (1, .int (zI (v1 : Int))), (2, .int (zI y)), (3, .int (zI i))]) hx hb dX0_score_5 hl (by decide) rfl (fun ls hl => ?_)
    refine lv_aload_n hx hb dX0_score_7 rfl (lv_at hl 1 rfl) ?_
    refine lv_iload_n hx hb dX0_score_8 rfl (lv_at hl 3 rfl) ?_
    by_cases hcy : 0 ≤ y ∧ y < wN (aWd a)
    · obtain ⟨y1, rfl⟩ : ∃ z : Nat, y = (z : Int) := ⟨y.toNat, by omega⟩
      refine g_cr (va_runV (As := [.int (zI (y1 : Int))]) (rest := []) ⟨hx, hb, hml, hown, hts⟩ (metX0_revision_t (r := y1) hS hA (by omega)) (cwV 1 hts (lw_V q737 q739 qs4 q87 q740) rfl rfl rfl (by decide +kernel) ⟨Nat.le_of_ble_eq_true rfl, Nat.le_of_ble_eq_true rfl⟩) (g_preV hG (g_recv hG (hG.vo hx0) (ci := 0) rfl)) rfl rfl hl.1 rfl (lv_room (Nat.le_of_ble_eq_true rfl)) dX0_score_9 ⟨by show _ ≤ 560; omega, by show _ ≤ 13200; omega⟩) hG (fun r_4 F_5 V_6 ws_ H locs hp hG => ?_)
      obtain ⟨rfl, rfl, rfl, rfl⟩ := hp
      have hG : gW X F V (Z) s H locs := hG
      have hlny1 : aLn a ((y1 : Nat) : Int) = ((wTx (aWd a) y1).length : Nat) := rfl
      have h24y1 := (hK.tx (r := y1) (by omega)).1
      refine lv_astore (lv' := [(5, .ref (ra y1)), (4, .ref (ma v1)), (0, .ref x), (1, .int (zI (v1 : Int))), (2, .int (zI (y1 : Int))), (3, .int (zI i))]) hx hb dX0_score_12 hl (by decide) rfl (fun ls hl => ?_)
      refine lv_aload_n hx hb dX0_score_14 rfl (lv_at hl 2 rfl) ?_
      refine lv_aload hx hb dX0_score_15 (lv_at hl 1 rfl) ?_
      refine lv_aload hx hb dX0_score_17 (lv_at hl 0 rfl) ?_
      rcases hb9 : beh (wFo (aWd a)) y1 (rOn (wRk (aWd a) v1)) with _ | _ | n
      · refine g_xr (vx_runV (As := [.ref (ma v1), .ref (ra y1)]) (rest := []) ⟨hx, hb, hml, hown, hts⟩ (metX0_contextOn_f hS hA (by omega) (by omega) (Or.inl hb9)) (cwV 2 hts (lw_V q2468 q2470 qs34 q87 q2471) rfl rfl rfl (by decide +kernel) ⟨Nat.le_of_ble_eq_true rfl, Nat.le_of_ble_eq_true rfl⟩) (g_preV hG (g_recv hG (hG.vo hx0) (ci := 0) rfl)) rfl rfl hl.1 rfl (lv_room (Nat.le_of_ble_eq_true rfl)) dX0_score_19 ⟨by show _ ≤ 560; omega, by show _ ≤ 13200; omega⟩) hG (fun E9 ce9 q9 Fx_10 Vx_11 ws_ H locs hpx hG hce => ?_) (fun r_7 F_8 V_9 ws_ H locs hp hG => ?_)
        · obtain ⟨rfl, hle_Fx_10, hq9, rfl, rfl⟩ := hpx
          have hG : gW X Fx_10 V (Z) s H locs := hG
          refine g_catch (name := "LineRemarks$Refused") hown htab [] ⟨0, 53, 54, 21⟩ [] rfl (fun z9 hz9 => absurd hz9 List.not_mem_nil) (by decide) (by decide) (hts _ q410) (hG.1.2.1.1 _ qn498) hce ?_
          refine lv_astore (lv' := [(4, .ref q9), (5, .ref (ra y1)), (0, .ref x), (1, .int (zI (v1 : Int))), (2, .int (zI (y1 : Int))), (3, .int (zI i))]) hx hb dX0_score_54 hl (by decide) rfl (fun ls hl => ?_)
          refine lv_aload_n hx hb dX0_score_56 rfl (lv_at hl 2 rfl) ?_
          refine lv_aload hx hb dX0_score_57 (lv_at hl 0 rfl) ?_
          refine g_ci (va_runV (As := [.ref q9]) (rest := []) ⟨hx, hb, hml, hown, hts⟩ (metX0_refused (k := 6) (hS.mono hle_Fx_10) hA hq9 (by decide)) (cwV 1 hts (lw_V q589 q591 qs2 q87 q592) rfl rfl rfl (by decide +kernel) ⟨Nat.le_of_ble_eq_true rfl, Nat.le_of_ble_eq_true rfl⟩) (g_preV hG (g_recv hG (hG.vo hx0) (ci := 0) rfl)) rfl rfl hl.1 rfl (lv_room (Nat.le_of_ble_eq_true rfl)) dX0_score_59 ⟨by show _ ≤ 560; omega, by show _ ≤ 13200; omega⟩) hG (fun r_12 F_13 V_14 ws_ H locs hp hG => ?_)
          obtain ⟨rfl, rfl, hS9, rfl⟩ := hp
          have hG : gW X Fx_10 V_14 (Z) s H locs := hG
          refine vx_ret ?_
          exact g_iret hx hb hr hlocks hG (by have e9 : opScore a (v1 : Int) (y1 : Int) i = aNoR a 6 := (by unfold opScore; rw [if_neg (by omega), show beh (wFo (aWd a)) ((y1 : Nat) : Int).toNat (rOn (wRk (aWd a) ((v1 : Nat) : Int).toNat)) = none from hb9]; first | done | rfl); rw [e9]; exact ⟨hle_Fx_10, rfl, hS9.ex, rfl⟩) ⟨by show _ ≤ 560; omega, by show _ ≤ 13200; omega⟩ dX0_score_62
        exact hp.elim
      · refine g_xr (vx_runV (As := [.ref (ma v1), .ref (ra y1)]) (rest := []) ⟨hx, hb, hml, hown, hts⟩ (metX0_contextOn_f hS hA (by omega) (by omega) (Or.inr hb9)) (cwV 2 hts (lw_V q2468 q2470 qs34 q87 q2471) rfl rfl rfl (by decide +kernel) ⟨Nat.le_of_ble_eq_true rfl, Nat.le_of_ble_eq_true rfl⟩) (g_preV hG (g_recv hG (hG.vo hx0) (ci := 0) rfl)) rfl rfl hl.1 rfl (lv_room (Nat.le_of_ble_eq_true rfl)) dX0_score_19 ⟨by show _ ≤ 560; omega, by show _ ≤ 13200; omega⟩) hG (fun E9 ce9 q9 Fx_18 Vx_19 ws_ H locs hpx hG hce => ?_) (fun r_15 F_16 V_17 ws_ H locs hp hG => ?_)
        · obtain ⟨rfl, hle_Fx_18, hq9, rfl, rfl⟩ := hpx
          have hG : gW X Fx_18 V (Z) s H locs := hG
          refine g_catch (name := "LineRemarks$Refused") hown htab [] ⟨0, 53, 54, 21⟩ [] rfl (fun z9 hz9 => absurd hz9 List.not_mem_nil) (by decide) (by decide) (hts _ q410) (hG.1.2.1.1 _ qn498) hce ?_
          refine lv_astore (lv' := [(4, .ref q9), (5, .ref (ra y1)), (0, .ref x), (1, .int (zI (v1 : Int))), (2, .int (zI (y1 : Int))), (3, .int (zI i))]) hx hb dX0_score_54 hl (by decide) rfl (fun ls hl => ?_)
          refine lv_aload_n hx hb dX0_score_56 rfl (lv_at hl 2 rfl) ?_
          refine lv_aload hx hb dX0_score_57 (lv_at hl 0 rfl) ?_
          refine g_ci (va_runV (As := [.ref q9]) (rest := []) ⟨hx, hb, hml, hown, hts⟩ (metX0_refused (k := 6) (hS.mono hle_Fx_18) hA hq9 (by decide)) (cwV 1 hts (lw_V q589 q591 qs2 q87 q592) rfl rfl rfl (by decide +kernel) ⟨Nat.le_of_ble_eq_true rfl, Nat.le_of_ble_eq_true rfl⟩) (g_preV hG (g_recv hG (hG.vo hx0) (ci := 0) rfl)) rfl rfl hl.1 rfl (lv_room (Nat.le_of_ble_eq_true rfl)) dX0_score_59 ⟨by show _ ≤ 560; omega, by show _ ≤ 13200; omega⟩) hG (fun r_20 F_21 V_22 ws_ H locs hp hG => ?_)
          obtain ⟨rfl, rfl, hS9, rfl⟩ := hp
          have hG : gW X Fx_18 V_22 (Z) s H locs := hG
          refine vx_ret ?_
          exact g_iret hx hb hr hlocks hG (by have e9 : opScore a (v1 : Int) (y1 : Int) i = aNoR a 6 := (by unfold opScore; rw [if_neg (by omega), show beh (wFo (aWd a)) ((y1 : Nat) : Int).toNat (rOn (wRk (aWd a) ((v1 : Nat) : Int).toNat)) = some 0 from hb9]; first | done | rfl); rw [e9]; exact ⟨hle_Fx_18, rfl, hS9.ex, rfl⟩) ⟨by show _ ≤ 560; omega, by show _ ≤ 13200; omega⟩ dX0_score_62
        exact hp.elim
      · refine g_cr (va_runV (As := [.ref (ma v1), .ref (ra y1)]) (rest := []) ⟨hx, hb, hml, hown, hts⟩ (metX0_contextOn_t hS hA (by omega) (by omega) hb9) (cwV 2 hts (lw_V q2468 q2470 qs34 q87 q2471) rfl rfl rfl (by decide +kernel) ⟨Nat.le_of_ble_eq_true rfl, Nat.le_of_ble_eq_true rfl⟩) (g_preV hG (g_recv hG (hG.vo hx0) (ci := 0) rfl)) rfl rfl hl.1 rfl (lv_room (Nat.le_of_ble_eq_true rfl)) dX0_score_19 ⟨by show _ ≤ 560; omega, by show _ ≤ 13200; omega⟩) hG (fun cx G1 V_23 ws_ H locs hp hG => ?_)
        obtain ⟨hle_G1, rfl, cl7, al7, be7, hcx7, rfl⟩ := hp
        have hG : gW X G1 V ((cx, oB 23 [.ref cl7, va_rf al7, va_rf be7]) :: Z) s H locs := hG
        have hwl := wkF_lt (d := n) hK (by omega) (by omega) hb9 (by omega)
        obtain ⟨KK, hKK⟩ : ∃ KK, KK = (wkF (aWd a) v1 y1 (n + 1) n) := ⟨_, rfl⟩
        rw [← hKK] at hcx7 hwl
        have htL := (hK.tx (r := kL KK) hwl.1).1
        have hR1 := hR.mono hle_G1
        obtain ⟨SN, hSN⟩ : ∃ SN, SN = scN (wTx (aWd a) y1) (kLP KK) (kLQ KK) := ⟨_, rfl⟩
        have hSN2 : SN = (wTx (aWd a) y1).length - (kLQ KK - kLP KK) := hSN
        refine lv_astore (lv' := [(6, .ref cx), (5, .ref (ra y1)), (4, .ref (ma v1)), (0, .ref x), (1, .int (zI (v1 : Int))), (2, .int (zI (y1 : Int))), (3, .int (zI i))]) hx hb dX0_score_22 hl (by decide) rfl (fun ls hl => ?_)
        refine lv_iload_n hx hb dX0_score_24 rfl (lv_at hl 6 rfl) ?_
        refine g_i2l hx hb dX0_score_25 (by omega) ?_
        refine lv_lconst (v := zL 0) hx hb dX0_score_26 (by decide +kernel) ?_
        refine lv_aload hx hb dX0_score_27 (lv_at hl 0 rfl) ?_
        refine lv_aload hx hb dX0_score_29 (lv_at hl 1 rfl) ?_
        refine g_ci (va_runV (As := [.ref (ra y1)]) (rest := [.long (zL 0), .long (zL i)]) ⟨hx, hb, hml, hown, hts⟩ (metX25_places (hR1 y1 (by omega)).1 (hR1 y1 (by omega)).2 hcx7 ⟨hwl.2.1, hwl.2.2, htL⟩) (cwV 1 hts (lw_V q2477 q2450 q2451 q154 q2452) rfl rfl rfl (by decide +kernel) ⟨Nat.le_of_ble_eq_true rfl, Nat.le_of_ble_eq_true rfl⟩) (g_preV hG (g_recv hG (hG.at 0 rfl) (ci := 23) rfl)) rfl rfl hl.1 rfl (lv_room (Nat.le_of_ble_eq_true rfl)) dX0_score_31 ⟨by show _ ≤ 560; omega, by show _ ≤ 13200; omega⟩) hG (fun r_24 F_25 V_26 ws_ H locs hp hG => ?_)
        obtain ⟨rfl, rfl, rfl, rfl⟩ := hp
        have hG : gW X G1 V ((cx, oB 23 [.ref cl7, va_rf al7, va_rf be7]) :: Z) s H locs := hG
        refine g_topz (y := (SN : Int)) (by rw [hSN]) ?_
        refine lv_iconst (v := zI 1) hx hb dX0_score_34 (by decide +kernel) ?_
        refine g_isub hx hb dX0_score_35 ?_
        refine g_i2l hx hb dX0_score_36 (by omega) ?_
        by_cases hni : 0 ≤ i ∧ i ≤ (SN : Int) - 1
        · refine g_ci (va_runS (As := [.long (zL i), .long (zL 0), .long (zL ((SN : Int) - 1))]) (rest := []) ⟨hx, hb, hml, hown, hts⟩ (metX0_in (a9 := i) (b9 := 0) (c9 := ((SN : Int) - 1)) (by omega)) (va_cwS 3 hts (lw_S q524 q525 q87 q526) rfl rfl rfl (by decide +kernel) ⟨Nat.le_of_ble_eq_true rfl, Nat.le_of_ble_eq_true rfl⟩) (g_preS hG) rfl rfl hl.1 rfl (lv_room (Nat.le_of_ble_eq_true rfl)) dX0_score_37 ⟨by show _ ≤ 560; omega, by show _ ≤ 13200; omega⟩) hG (fun r_27 F_28 V_29 ws_ H locs hp hG => ?_)
          obtain ⟨rfl, rfl, rfl, rfl⟩ := hp
          have hG : gW X G1 V ((cx, oB 23 [.ref cl7, va_rf al7, va_rf be7]) :: Z) s H locs := hG
          refine g_topz (y := 1) (by rw [decide_eq_true (by omega)]; rfl) ?_
          refine lv_bipush (v := zI (-5)) hx hb dX0_score_40 (by decide +kernel) ?_
          refine g_cv (va_runS (As := [.int (zI 1), .int (zI (-5))]) (rest := []) ⟨hx, hb, hml, hown, hts⟩ (metX0_need_t (b := 1) (by decide)) (va_cwS 2 hts (lw_S q520 q521 q87 q522) rfl rfl rfl (by decide +kernel) ⟨Nat.le_of_ble_eq_true rfl, Nat.le_of_ble_eq_true rfl⟩) (g_preS hG) rfl rfl hl.1 rfl (lv_room (Nat.le_of_ble_eq_true rfl)) dX0_score_42 ⟨by show _ ≤ 560; omega, by show _ ≤ 13200; omega⟩) hG (fun F_31 V_32 ws_ H locs hp hG => ?_)
          obtain ⟨rfl, rfl, rfl⟩ := hp
          have hG : gW X G1 V ((cx, oB 23 [.ref cl7, va_rf al7, va_rf be7]) :: Z) s H locs := hG
          obtain ⟨i1, rfl⟩ : ∃ z : Nat, i = (z : Int) := ⟨i.toNat, by omega⟩
          refine lv_aload hx hb dX0_score_45 (lv_at hl 0 rfl) ?_
          refine lv_aload hx hb dX0_score_47 (lv_at hl 1 rfl) ?_
          refine lv_iload_n hx hb dX0_score_49 rfl (lv_at hl 6 rfl) ?_
          refine g_ci (va_runV (As := [.ref (ra y1), .int (zI (i1 : Int))]) (rest := []) ⟨hx, hb, hml, hown, hts⟩ (metX25_score (s0 := i1) (hR1 y1 (by omega)).1 (hR1 y1 (by omega)).2 hcx7 ⟨hwl.2.1, hwl.2.2, htL⟩ (by omega)) (cwV 2 hts (lw_V q2478 q2455 q2456 q154 q2457) rfl rfl rfl (by decide +kernel) ⟨Nat.le_of_ble_eq_true rfl, Nat.le_of_ble_eq_true rfl⟩) (g_preV hG (g_recv hG (hG.at 0 rfl) (ci := 23) rfl)) rfl rfl hl.1 rfl (lv_room (Nat.le_of_ble_eq_true rfl)) dX0_score_50 ⟨by show _ ≤ 560; omega, by show _ ≤ 13200; omega⟩) hG (fun r_33 F_34 V_35 ws_ H locs hp hG => ?_)
          obtain ⟨rfl, rfl, rfl, rfl⟩ := hp
          have hG : gW X G1 V ((cx, oB 23 [.ref cl7, va_rf al7, va_rf be7]) :: Z) s H locs := hG
          have hG : gW X G1 V (Z) s _ _ := hG.drop 0 rfl rfl
          refine vx_ret ?_
          exact g_iret hx hb hr hlocks hG (by have e9 : opScore a (v1 : Int) (y1 : Int) (i1 : Int) = (((sc (wTx (aWd a) (kL KK)) (wTx (aWd a) y1) (kLP KK) (kLQ KK) i1 : Nat) : Int), a) := (by rw [opScore_s hb9 (by omega) (by omega) hKK, if_neg (by omega)]; rfl); rw [e9]; exact ⟨hle_G1, rfl, ((hS.mono hle_G1)).ex, rfl⟩) ⟨by show _ ≤ 560; omega, by show _ ≤ 13200; omega⟩ dX0_score_53
        · refine g_ci (va_runS (As := [.long (zL i), .long (zL 0), .long (zL ((SN : Int) - 1))]) (rest := []) ⟨hx, hb, hml, hown, hts⟩ (metX0_in (a9 := i) (b9 := 0) (c9 := ((SN : Int) - 1)) (by omega)) (va_cwS 3 hts (lw_S q524 q525 q87 q526) rfl rfl rfl (by decide +kernel) ⟨Nat.le_of_ble_eq_true rfl, Nat.le_of_ble_eq_true rfl⟩) (g_preS hG) rfl rfl hl.1 rfl (lv_room (Nat.le_of_ble_eq_true rfl)) dX0_score_37 ⟨by show _ ≤ 560; omega, by show _ ≤ 13200; omega⟩) hG (fun r_36 F_37 V_38 ws_ H locs hp hG => ?_)
          obtain ⟨rfl, rfl, rfl, rfl⟩ := hp
          have hG : gW X G1 V ((cx, oB 23 [.ref cl7, va_rf al7, va_rf be7]) :: Z) s H locs := hG
          refine g_topz (y := 0) (by rw [decide_eq_false (by omega)]; rfl) ?_
          have hi9 : i < 0 ∨ (SN : Int) ≤ i := by omega
          refine lv_bipush (v := zI (-5)) hx hb dX0_score_40 (by decide +kernel) ?_
          refine g_xv (vx_runS (As := [.int (zI 0), .int (zI (-5))]) (rest := []) ⟨hx, hb, hml, hown, hts⟩ (metX0_need_f (k := 5)) (va_cwS 2 hts (lw_S q520 q521 q87 q522) rfl rfl rfl (by decide +kernel) ⟨Nat.le_of_ble_eq_true rfl, Nat.le_of_ble_eq_true rfl⟩) (g_preS hG) rfl rfl hl.1 rfl (lv_room (Nat.le_of_ble_eq_true rfl)) dX0_score_42 ⟨by show _ ≤ 560; omega, by show _ ≤ 13200; omega⟩) hG (fun E9 ce9 q9 Fx_42 Vx_43 ws_ H locs hpx hG hce => ?_) (fun F_40 V_41 ws_ H locs hp hG => ?_)
          · obtain ⟨rfl, hle_Fx_42, hq9, rfl, rfl⟩ := hpx
            have hG : gW X Fx_42 V ((cx, oB 23 [.ref cl7, va_rf al7, va_rf be7]) :: Z) s H locs := hG
            have hG : gW X Fx_42 V (Z) s _ _ := hG.drop 0 rfl rfl
            refine g_catch (name := "LineRemarks$Refused") hown htab [] ⟨0, 53, 54, 21⟩ [] rfl (fun z9 hz9 => absurd hz9 List.not_mem_nil) (by decide) (by decide) (hts _ q410) (hG.1.2.1.1 _ qn498) hce ?_
            refine lv_astore (lv' := [(4, .ref q9), (6, .ref cx), (5, .ref (ra y1)), (0, .ref x), (1, .int (zI (v1 : Int))), (2, .int (zI (y1 : Int))), (3, .int (zI i))]) hx hb dX0_score_54 hl (by decide) rfl (fun ls hl => ?_)
            refine lv_aload_n hx hb dX0_score_56 rfl (lv_at hl 3 rfl) ?_
            refine lv_aload hx hb dX0_score_57 (lv_at hl 0 rfl) ?_
            refine g_ci (va_runV (As := [.ref q9]) (rest := []) ⟨hx, hb, hml, hown, hts⟩ (metX0_refused (k := 5) (hS.mono (hle_G1.tr hle_Fx_42)) hA hq9 (by decide)) (cwV 1 hts (lw_V q589 q591 qs2 q87 q592) rfl rfl rfl (by decide +kernel) ⟨Nat.le_of_ble_eq_true rfl, Nat.le_of_ble_eq_true rfl⟩) (g_preV hG (g_recv hG (hG.vo hx0) (ci := 0) rfl)) rfl rfl hl.1 rfl (lv_room (Nat.le_of_ble_eq_true rfl)) dX0_score_59 ⟨by show _ ≤ 560; omega, by show _ ≤ 13200; omega⟩) hG (fun r_44 F_45 V_46 ws_ H locs hp hG => ?_)
            obtain ⟨rfl, rfl, hS9, rfl⟩ := hp
            have hG : gW X Fx_42 V_46 (Z) s H locs := hG
            refine vx_ret ?_
            exact g_iret hx hb hr hlocks hG (by have e9 : opScore a (v1 : Int) (y1 : Int) i = aNoR a 5 := (by rw [opScore_s hb9 (by omega) (by omega) hKK, if_pos (by omega)]); rw [e9]; exact ⟨(hle_G1.tr hle_Fx_42), rfl, hS9.ex, rfl⟩) ⟨by show _ ≤ 560; omega, by show _ ≤ 13200; omega⟩ dX0_score_62
          exact hp.elim
    · refine g_xr (vx_runV (As := [.int (zI y)]) (rest := []) ⟨hx, hb, hml, hown, hts⟩ (metX0_revision_f hS hA (by omega)) (cwV 1 hts (lw_V q737 q739 qs4 q87 q740) rfl rfl rfl (by decide +kernel) ⟨Nat.le_of_ble_eq_true rfl, Nat.le_of_ble_eq_true rfl⟩) (g_preV hG (g_recv hG (hG.vo hx0) (ci := 0) rfl)) rfl rfl hl.1 rfl (lv_room (Nat.le_of_ble_eq_true rfl)) dX0_score_9 ⟨by show _ ≤ 560; omega, by show _ ≤ 13200; omega⟩) hG (fun E9 ce9 q9 Fx_50 Vx_51 ws_ H locs hpx hG hce => ?_) (fun r_47 F_48 V_49 ws_ H locs hp hG => ?_)
      · obtain ⟨rfl, hle_Fx_50, hq9, rfl, rfl⟩ := hpx
        have hG : gW X Fx_50 V (Z) s H locs := hG
        refine g_catch (name := "LineRemarks$Refused") hown htab [] ⟨0, 53, 54, 21⟩ [] rfl (fun z9 hz9 => absurd hz9 List.not_mem_nil) (by decide) (by decide) (hts _ q410) (hG.1.2.1.1 _ qn498) hce ?_
        refine lv_astore (lv' := [(4, .ref q9), (0, .ref x), (1, .int (zI (v1 : Int))), (2, .int (zI y)), (3, .int (zI i))]) hx hb dX0_score_54 hl (by decide) rfl (fun ls hl => ?_)
        refine lv_aload_n hx hb dX0_score_56 rfl (lv_at hl 1 rfl) ?_
        refine lv_aload hx hb dX0_score_57 (lv_at hl 0 rfl) ?_
        refine g_ci (va_runV (As := [.ref q9]) (rest := []) ⟨hx, hb, hml, hown, hts⟩ (metX0_refused (k := 1) (hS.mono hle_Fx_50) hA hq9 (by decide)) (cwV 1 hts (lw_V q589 q591 qs2 q87 q592) rfl rfl rfl (by decide +kernel) ⟨Nat.le_of_ble_eq_true rfl, Nat.le_of_ble_eq_true rfl⟩) (g_preV hG (g_recv hG (hG.vo hx0) (ci := 0) rfl)) rfl rfl hl.1 rfl (lv_room (Nat.le_of_ble_eq_true rfl)) dX0_score_59 ⟨by show _ ≤ 560; omega, by show _ ≤ 13200; omega⟩) hG (fun r_52 F_53 V_54 ws_ H locs hp hG => ?_)
        obtain ⟨rfl, rfl, hS9, rfl⟩ := hp
        have hG : gW X Fx_50 V_54 (Z) s H locs := hG
        refine vx_ret ?_
        exact g_iret hx hb hr hlocks hG (by have e9 : opScore a (v1 : Int) y i = aNoR a 1 := (by unfold opScore; rw [if_pos (by omega)]; first | done | rfl); rw [e9]; exact ⟨hle_Fx_50, rfl, hS9.ex, rfl⟩) ⟨by show _ ≤ 560; omega, by show _ ≤ 13200; omega⟩ dX0_score_62
      exact hp.elim
  · refine g_xr (vx_runV (As := [.int (zI v)]) (rest := []) ⟨hx, hb, hml, hown, hts⟩ (metX0_told_f hS hA (by omega)) (cwV 1 hts (lw_V q700 q702 qs3 q87 q703) rfl rfl rfl (by decide +kernel) ⟨Nat.le_of_ble_eq_true rfl, Nat.le_of_ble_eq_true rfl⟩) (g_preV hG (g_recv hG (hG.vo hx0) (ci := 0) rfl)) rfl rfl hl.1 rfl (lv_room (Nat.le_of_ble_eq_true rfl)) dX0_score_2 ⟨by show _ ≤ 560; omega, by show _ ≤ 13200; omega⟩) hG (fun E9 ce9 q9 Fx_58 Vx_59 ws_ H locs hpx hG hce => ?_) (fun r_55 F_56 V_57 ws_ H locs hp hG => ?_)
    · obtain ⟨rfl, hle_Fx_58, hq9, rfl, rfl⟩ := hpx
      have hG : gW X Fx_58 V (Z) s H locs := hG
      refine g_catch (name := "LineRemarks$Refused") hown htab [] ⟨0, 53, 54, 21⟩ [] rfl (fun z9 hz9 => absurd hz9 List.not_mem_nil) (by decide) (by decide) (hts _ q410) (hG.1.2.1.1 _ qn498) hce ?_
      refine lv_astore (lv' := [(4, .ref q9), (0, .ref x), (1, .int (zI v)), (2, .int (zI y)), (3, .int (zI i))]) hx hb dX0_score_54 hl (by decide) rfl (fun ls hl => ?_)
      refine lv_aload_n hx hb dX0_score_56 rfl (lv_at hl 1 rfl) ?_
      refine lv_aload hx hb dX0_score_57 (lv_at hl 0 rfl) ?_
      refine g_ci (va_runV (As := [.ref q9]) (rest := []) ⟨hx, hb, hml, hown, hts⟩ (metX0_refused (k := 1) (hS.mono hle_Fx_58) hA hq9 (by decide)) (cwV 1 hts (lw_V q589 q591 qs2 q87 q592) rfl rfl rfl (by decide +kernel) ⟨Nat.le_of_ble_eq_true rfl, Nat.le_of_ble_eq_true rfl⟩) (g_preV hG (g_recv hG (hG.vo hx0) (ci := 0) rfl)) rfl rfl hl.1 rfl (lv_room (Nat.le_of_ble_eq_true rfl)) dX0_score_59 ⟨by show _ ≤ 560; omega, by show _ ≤ 13200; omega⟩) hG (fun r_60 F_61 V_62 ws_ H locs hp hG => ?_)
      obtain ⟨rfl, rfl, hS9, rfl⟩ := hp
      have hG : gW X Fx_58 V_62 (Z) s H locs := hG
      refine vx_ret ?_
      exact g_iret hx hb hr hlocks hG (by have e9 : opScore a v y i = aNoR a 1 := (by unfold opScore; rw [if_pos (by omega)]; first | done | rfl); rw [e9]; exact ⟨hle_Fx_58, rfl, hS9.ex, rfl⟩) ⟨by show _ ≤ 560; omega, by show _ ≤ 13200; omega⟩ dX0_score_62
    exact hp.elim

set_option maxHeartbeats 4000000 in
theorem metX0_leastNeed {l : Launch} {X : gX} {F : gF} {V : gV} {Z : va_W} {x sa rf tr tb kl wa rv rk st : Nat} {sh ra la ma : Nat → Nat} {im : Option Nat} {a : aS} (hS : xS X F V x a sa rf tr tb kl wa rv rk st sh ra la ma im) (hA : aOK a) (hst : l.stackTraces = false) {v y : Int} (hrv : (-2147483648 ≤ v ∧ v < 2147483648)) (hry : (-2147483648 ≤ y ∧ y < 2147483648)) : vx_Met l yX0_leastNeed (wsW_ yX0_leastNeed cX0_leastNeed 7 (some FieldType.int) [(0, 57, 58, 21)]) ({ frames := 11, cells := 560, slots := 13200, locals := 247 }) (gP X F V (Z) [.ref x, .int (zI v), .int (zI y)]) (gQi X (fun u G U ws => gLe F G ∧ u = zI (opLeast a v y).1 ∧ xX X G U x (opLeast a v y).2 ∧ Z = ws)) (gXc X (fun _ _ _ _ _ => False)) 560 13200 (gA X) := by
  refine vx_Met.gH (by decide) (Nat.le_of_ble_eq_true rfl) ?_
  intro p e s m below meth c ls hx hb hr hts hown hlocks hml hin htab hG hl
  have hl : lv_has ls 7 [(0, .ref x), (1, .int (zI v)), (2, .int (zI y))] := hl
  have hSA := hS
  obtain ⟨hx0, ⟨fs9, hx1, hsh⟩, ⟨gr9, hx2, hgr⟩, hx3, hx4, hW, hx6, hx7⟩ := hSA
  have hSA := hS
  have hK := hA.w
  have hNN := hK.n
  have hMM := hK.m
  obtain ⟨hw0, ⟨fR, hw1, hwR⟩, ⟨fM, hw2, hwM⟩, ⟨fS, hw3, hwS⟩, hR, hMk⟩ := id hW
  have hw0 : V 4 = some (wa, oB 2 [.int (zI (wN (aWd a) : Int)), .int (zI (wM (aWd a) : Int)), .int (zI (wRun (aWd a) : Int)), .int (zI (wNeed (aWd a) : Int)), .int (zI (wMar (aWd a) : Int)), .int (wSeed (aWd a)), .ref rv, .ref rk, .ref st]) := hw0
  have hw1 : V 5 = some (rv, aR (gT X 7) 16 fR) := hw1
  have hw2 : V 6 = some (rk, aR (gT X 8) 16 fM) := hw2
  have hw3 : V 7 = some (st, aI (gT X 5) 16 fS) := hw3
  refine lv_aload_n hx hb dX0_leastNeed_0 rfl (lv_at hl 0 rfl) ?_
  refine lv_iload_n hx hb dX0_leastNeed_1 rfl (lv_at hl 1 rfl) ?_
  by_cases hcv : 0 ≤ v ∧ v < wM (aWd a)
  · obtain ⟨v1, rfl⟩ : ∃ z : Nat, v = (z : Int) := ⟨v.toNat, by omega⟩
    refine g_cr (va_runV (As := [.int (zI (v1 : Int))]) (rest := []) ⟨hx, hb, hml, hown, hts⟩ (metX0_told_t (r := v1) hS hA (by omega)) (cwV 1 hts (lw_V q700 q702 qs3 q87 q703) rfl rfl rfl (by decide +kernel) ⟨Nat.le_of_ble_eq_true rfl, Nat.le_of_ble_eq_true rfl⟩) (g_preV hG (g_recv hG (hG.vo hx0) (ci := 0) rfl)) rfl rfl hl.1 rfl (lv_room (Nat.le_of_ble_eq_true rfl)) dX0_leastNeed_2 ⟨by show _ ≤ 560; omega, by show _ ≤ 13200; omega⟩) hG (fun r_1 F_2 V_3 ws_ H locs hp hG => ?_)
    obtain ⟨rfl, rfl, rfl, rfl⟩ := hp
    have hG : gW X F V (Z) s H locs := hG
    have hrkv1 := hK.rk (m := v1) (by omega)
    have hrmv1 := hMk v1 (by omega)
    have hkdv1 := hrkv1.1
    refine lv_astore_n (lv' := [(3, .ref (ma v1)), (0, .ref x), (1, .int (zI (v1 : Int))), (2, .int (zI y))]) hx hb dX0_leastNeed_5 rfl hl (by decide) rfl (fun ls hl => ?_)
    refine lv_aload_n hx hb dX0_leastNeed_6 rfl (lv_at hl 1 rfl) ?_
    refine lv_iload_n hx hb dX0_leastNeed_7 rfl (lv_at hl 3 rfl) ?_
    by_cases hcy : 0 ≤ y ∧ y < wN (aWd a)
    · obtain ⟨y1, rfl⟩ : ∃ z : Nat, y = (z : Int) := ⟨y.toNat, by omega⟩
      refine g_cr (va_runV (As := [.int (zI (y1 : Int))]) (rest := []) ⟨hx, hb, hml, hown, hts⟩ (metX0_revision_t (r := y1) hS hA (by omega)) (cwV 1 hts (lw_V q737 q739 qs4 q87 q740) rfl rfl rfl (by decide +kernel) ⟨Nat.le_of_ble_eq_true rfl, Nat.le_of_ble_eq_true rfl⟩) (g_preV hG (g_recv hG (hG.vo hx0) (ci := 0) rfl)) rfl rfl hl.1 rfl (lv_room (Nat.le_of_ble_eq_true rfl)) dX0_leastNeed_8 ⟨by show _ ≤ 560; omega, by show _ ≤ 13200; omega⟩) hG (fun r_4 F_5 V_6 ws_ H locs hp hG => ?_)
      obtain ⟨rfl, rfl, rfl, rfl⟩ := hp
      have hG : gW X F V (Z) s H locs := hG
      have hlny1 : aLn a ((y1 : Nat) : Int) = ((wTx (aWd a) y1).length : Nat) := rfl
      have h24y1 := (hK.tx (r := y1) (by omega)).1
      refine lv_astore (lv' := [(4, .ref (ra y1)), (3, .ref (ma v1)), (0, .ref x), (1, .int (zI (v1 : Int))), (2, .int (zI (y1 : Int)))]) hx hb dX0_leastNeed_11 hl (by decide) rfl (fun ls hl => ?_)
      refine lv_aload_n hx hb dX0_leastNeed_13 rfl (lv_at hl 2 rfl) ?_
      refine lv_aload_n hx hb dX0_leastNeed_14 rfl (lv_at hl 1 rfl) ?_
      refine lv_aload hx hb dX0_leastNeed_15 (lv_at hl 0 rfl) ?_
      rcases hb9 : beh (wFo (aWd a)) y1 (rOn (wRk (aWd a) v1)) with _ | _ | n
      · refine g_xr (vx_runV (As := [.ref (ma v1), .ref (ra y1)]) (rest := []) ⟨hx, hb, hml, hown, hts⟩ (metX0_contextOn_f hS hA (by omega) (by omega) (Or.inl hb9)) (cwV 2 hts (lw_V q2468 q2470 qs34 q87 q2471) rfl rfl rfl (by decide +kernel) ⟨Nat.le_of_ble_eq_true rfl, Nat.le_of_ble_eq_true rfl⟩) (g_preV hG (g_recv hG (hG.vo hx0) (ci := 0) rfl)) rfl rfl hl.1 rfl (lv_room (Nat.le_of_ble_eq_true rfl)) dX0_leastNeed_17 ⟨by show _ ≤ 560; omega, by show _ ≤ 13200; omega⟩) hG (fun E9 ce9 q9 Fx_10 Vx_11 ws_ H locs hpx hG hce => ?_) (fun r_7 F_8 V_9 ws_ H locs hp hG => ?_)
        · obtain ⟨rfl, hle_Fx_10, hq9, rfl, rfl⟩ := hpx
          have hG : gW X Fx_10 V (Z) s H locs := hG
          refine g_catch (name := "LineRemarks$Refused") hown htab [] ⟨0, 57, 58, 21⟩ [] rfl (fun z9 hz9 => absurd hz9 List.not_mem_nil) (by decide) (by decide) (hts _ q410) (hG.1.2.1.1 _ qn498) hce ?_
          refine lv_astore_n (lv' := [(3, .ref q9), (4, .ref (ra y1)), (0, .ref x), (1, .int (zI (v1 : Int))), (2, .int (zI (y1 : Int)))]) hx hb dX0_leastNeed_58 rfl hl (by decide) rfl (fun ls hl => ?_)
          refine lv_aload_n hx hb dX0_leastNeed_59 rfl (lv_at hl 2 rfl) ?_
          refine lv_aload_n hx hb dX0_leastNeed_60 rfl (lv_at hl 0 rfl) ?_
          refine g_ci (va_runV (As := [.ref q9]) (rest := []) ⟨hx, hb, hml, hown, hts⟩ (metX0_refused (k := 6) (hS.mono hle_Fx_10) hA hq9 (by decide)) (cwV 1 hts (lw_V q589 q591 qs2 q87 q592) rfl rfl rfl (by decide +kernel) ⟨Nat.le_of_ble_eq_true rfl, Nat.le_of_ble_eq_true rfl⟩) (g_preV hG (g_recv hG (hG.vo hx0) (ci := 0) rfl)) rfl rfl hl.1 rfl (lv_room (Nat.le_of_ble_eq_true rfl)) dX0_leastNeed_61 ⟨by show _ ≤ 560; omega, by show _ ≤ 13200; omega⟩) hG (fun r_12 F_13 V_14 ws_ H locs hp hG => ?_)
          obtain ⟨rfl, rfl, hS9, rfl⟩ := hp
          have hG : gW X Fx_10 V_14 (Z) s H locs := hG
          refine lv_bipush (v := zI 10) hx hb dX0_leastNeed_64 (by decide +kernel) ?_
          refine g_isub hx hb dX0_leastNeed_66 ?_
          refine vx_ret ?_
          exact g_iret hx hb hr hlocks hG (by have e9 : opLeast a (v1 : Int) (y1 : Int) = aNoT a 6 := (by unfold opLeast; rw [if_neg (by omega), show beh (wFo (aWd a)) ((y1 : Nat) : Int).toNat (rOn (wRk (aWd a) ((v1 : Nat) : Int).toNat)) = none from hb9]; first | done | rfl); rw [e9]; exact ⟨hle_Fx_10, rfl, hS9.ex, rfl⟩) ⟨by show _ ≤ 560; omega, by show _ ≤ 13200; omega⟩ dX0_leastNeed_67
        exact hp.elim
      · refine g_xr (vx_runV (As := [.ref (ma v1), .ref (ra y1)]) (rest := []) ⟨hx, hb, hml, hown, hts⟩ (metX0_contextOn_f hS hA (by omega) (by omega) (Or.inr hb9)) (cwV 2 hts (lw_V q2468 q2470 qs34 q87 q2471) rfl rfl rfl (by decide +kernel) ⟨Nat.le_of_ble_eq_true rfl, Nat.le_of_ble_eq_true rfl⟩) (g_preV hG (g_recv hG (hG.vo hx0) (ci := 0) rfl)) rfl rfl hl.1 rfl (lv_room (Nat.le_of_ble_eq_true rfl)) dX0_leastNeed_17 ⟨by show _ ≤ 560; omega, by show _ ≤ 13200; omega⟩) hG (fun E9 ce9 q9 Fx_18 Vx_19 ws_ H locs hpx hG hce => ?_) (fun r_15 F_16 V_17 ws_ H locs hp hG => ?_)
        · obtain ⟨rfl, hle_Fx_18, hq9, rfl, rfl⟩ := hpx
          have hG : gW X Fx_18 V (Z) s H locs := hG
          refine g_catch (name := "LineRemarks$Refused") hown htab [] ⟨0, 57, 58, 21⟩ [] rfl (fun z9 hz9 => absurd hz9 List.not_mem_nil) (by decide) (by decide) (hts _ q410) (hG.1.2.1.1 _ qn498) hce ?_
          refine lv_astore_n (lv' := [(3, .ref q9), (4, .ref (ra y1)), (0, .ref x), (1, .int (zI (v1 : Int))), (2, .int (zI (y1 : Int)))]) hx hb dX0_leastNeed_58 rfl hl (by decide) rfl (fun ls hl => ?_)
          refine lv_aload_n hx hb dX0_leastNeed_59 rfl (lv_at hl 2 rfl) ?_
          refine lv_aload_n hx hb dX0_leastNeed_60 rfl (lv_at hl 0 rfl) ?_
          refine g_ci (va_runV (As := [.ref q9]) (rest := []) ⟨hx, hb, hml, hown, hts⟩ (metX0_refused (k := 6) (hS.mono hle_Fx_18) hA hq9 (by decide)) (cwV 1 hts (lw_V q589 q591 qs2 q87 q592) rfl rfl rfl (by decide +kernel) ⟨Nat.le_of_ble_eq_true rfl, Nat.le_of_ble_eq_true rfl⟩) (g_preV hG (g_recv hG (hG.vo hx0) (ci := 0) rfl)) rfl rfl hl.1 rfl (lv_room (Nat.le_of_ble_eq_true rfl)) dX0_leastNeed_61 ⟨by show _ ≤ 560; omega, by show _ ≤ 13200; omega⟩) hG (fun r_20 F_21 V_22 ws_ H locs hp hG => ?_)
          obtain ⟨rfl, rfl, hS9, rfl⟩ := hp
          have hG : gW X Fx_18 V_22 (Z) s H locs := hG
          refine lv_bipush (v := zI 10) hx hb dX0_leastNeed_64 (by decide +kernel) ?_
          refine g_isub hx hb dX0_leastNeed_66 ?_
          refine vx_ret ?_
          exact g_iret hx hb hr hlocks hG (by have e9 : opLeast a (v1 : Int) (y1 : Int) = aNoT a 6 := (by unfold opLeast; rw [if_neg (by omega), show beh (wFo (aWd a)) ((y1 : Nat) : Int).toNat (rOn (wRk (aWd a) ((v1 : Nat) : Int).toNat)) = some 0 from hb9]; first | done | rfl); rw [e9]; exact ⟨hle_Fx_18, rfl, hS9.ex, rfl⟩) ⟨by show _ ≤ 560; omega, by show _ ≤ 13200; omega⟩ dX0_leastNeed_67
        exact hp.elim
      · refine g_cr (va_runV (As := [.ref (ma v1), .ref (ra y1)]) (rest := []) ⟨hx, hb, hml, hown, hts⟩ (metX0_contextOn_t hS hA (by omega) (by omega) hb9) (cwV 2 hts (lw_V q2468 q2470 qs34 q87 q2471) rfl rfl rfl (by decide +kernel) ⟨Nat.le_of_ble_eq_true rfl, Nat.le_of_ble_eq_true rfl⟩) (g_preV hG (g_recv hG (hG.vo hx0) (ci := 0) rfl)) rfl rfl hl.1 rfl (lv_room (Nat.le_of_ble_eq_true rfl)) dX0_leastNeed_17 ⟨by show _ ≤ 560; omega, by show _ ≤ 13200; omega⟩) hG (fun cx G1 V_23 ws_ H locs hp hG => ?_)
        obtain ⟨hle_G1, rfl, cl7, al7, be7, hcx7, rfl⟩ := hp
        have hG : gW X G1 V ((cx, oB 23 [.ref cl7, va_rf al7, va_rf be7]) :: Z) s H locs := hG
        have hwl := wkF_lt (d := n) hK (by omega) (by omega) hb9 (by omega)
        obtain ⟨KK, hKK⟩ : ∃ KK, KK = (wkF (aWd a) v1 y1 (n + 1) n) := ⟨_, rfl⟩
        rw [← hKK] at hcx7 hwl
        have htL := (hK.tx (r := kL KK) hwl.1).1
        have hR1 := hR.mono hle_G1
        obtain ⟨SN, hSN⟩ : ∃ SN, SN = scN (wTx (aWd a) y1) (kLP KK) (kLQ KK) := ⟨_, rfl⟩
        have hSN2 : SN = (wTx (aWd a) y1).length - (kLQ KK - kLP KK) := hSN
        have hru := hK.ru
        refine lv_astore (lv' := [(5, .ref cx), (4, .ref (ra y1)), (3, .ref (ma v1)), (0, .ref x), (1, .int (zI (v1 : Int))), (2, .int (zI (y1 : Int)))]) hx hb dX0_leastNeed_20 hl (by decide) rfl (fun ls hl => ?_)
        refine lv_aload hx hb dX0_leastNeed_22 (lv_at hl 0 rfl) ?_
        refine lv_aload hx hb dX0_leastNeed_24 (lv_at hl 1 rfl) ?_
        refine lv_aload_n hx hb dX0_leastNeed_26 rfl (lv_at hl 3 rfl) ?_
        refine g_get (ci := 0) hx hb hts in_X0 hown hG (hG.vo hx0) rfl 4 (Nat.le_of_ble_eq_true rfl) (hts _ q388) (fun _ h9 => h9) rfl dX0_leastNeed_27 ?_
        refine g_get (ci := 2) hx hb hts in_X2 hown hG (hG.vo hw0) rfl 4 (Nat.le_of_ble_eq_true rfl) (hts _ q345) (fun _ h9 => h9) rfl dX0_leastNeed_30 ?_
        refine g_ci (va_runV (As := [.ref (ra y1), .int (zI (wMar (aWd a) : Int))]) (rest := []) ⟨hx, hb, hml, hown, hts⟩ (metX25_best (mr := wMar (aWd a)) (hR1 y1 (by omega)).1 (hR1 y1 (by omega)).2 hcx7 ⟨hwl.2.1, hwl.2.2, htL⟩ (by omega)) (cwV 2 hts (lw_V q2483 q2446 q2447 q154 q2448) rfl rfl rfl (by decide +kernel) ⟨Nat.le_of_ble_eq_true rfl, Nat.le_of_ble_eq_true rfl⟩) (g_preV hG (g_recv hG (hG.at 0 rfl) (ci := 23) rfl)) rfl rfl hl.1 rfl (lv_room (Nat.le_of_ble_eq_true rfl)) dX0_leastNeed_33 ⟨by show _ ≤ 560; omega, by show _ ≤ 13200; omega⟩) hG (fun r_24 F_25 V_26 ws_ H locs hp hG => ?_)
        obtain ⟨rfl, rfl, rfl, rfl⟩ := hp
        have hG : gW X G1 V ((cx, oB 23 [.ref cl7, va_rf al7, va_rf be7]) :: Z) s H locs := hG
        refine lv_istore (lv' := [(6, .int (zI (oI (lkX (wTx (aWd a) (kL KK)) (wTx (aWd a) y1) (kLP KK) (kLQ KK) (wMar (aWd a)))))), (5, .ref cx), (4, .ref (ra y1)), (3, .ref (ma v1)), (0, .ref x), (1, .int (zI (v1 : Int))), (2, .int (zI (y1 : Int)))]) hx hb dX0_leastNeed_36 hl (by decide) rfl (fun ls hl => ?_)
        rcases hlk : lkX (wTx (aWd a) (kL KK)) (wTx (aWd a) y1) (kLP KK) (kLQ KK) (wMar (aWd a)) with _ | s9
        · have hl : lv_has ls 7 [(6, .int (zI (-1))), (5, .ref cx), (4, .ref (ra y1)), (3, .ref (ma v1)), (0, .ref x), (1, .int (zI (v1 : Int))), (2, .int (zI (y1 : Int)))] := by rw [hlk] at hl; exact hl
          refine lv_iload hx hb dX0_leastNeed_38 (lv_at hl 0 rfl) ?_
          refine lv_iconst (v := zI (-1)) hx hb dX0_leastNeed_40 (by decide +kernel) ?_
          refine g_cne (tgt := 48) hx hb dX0_leastNeed_41 (by decide) (by omega) (fun hq => ?_) (fun hq => ?_)
          · exfalso; omega
          · refine lv_iconst (v := zI (-1)) hx hb dX0_leastNeed_44 (by decide +kernel) ?_
            refine lv_goto (tgt := 57) hx hb dX0_leastNeed_45 (by decide) ?_
            have hG : gW X G1 V (Z) s _ _ := hG.drop 0 rfl rfl
            refine vx_ret ?_
            exact g_iret hx hb hr hlocks hG (by have e9 : opLeast a (v1 : Int) (y1 : Int) = (-1, a) := (by rw [opLeast_s hb9 (by omega) (by omega) hKK, hlk]); rw [e9]; exact ⟨hle_G1, rfl, ((hS.mono hle_G1)).ex, rfl⟩) ⟨by show _ ≤ 560; omega, by show _ ≤ 13200; omega⟩ dX0_leastNeed_57
        · have hl : lv_has ls 7 [(6, .int (zI (s9 : Int))), (5, .ref cx), (4, .ref (ra y1)), (3, .ref (ma v1)), (0, .ref x), (1, .int (zI (v1 : Int))), (2, .int (zI (y1 : Int)))] := by rw [hlk] at hl; exact hl
          have hs9 := lkX_lt hlk
          rw [← hSN] at hs9
          refine lv_iload hx hb dX0_leastNeed_38 (lv_at hl 0 rfl) ?_
          refine lv_iconst (v := zI (-1)) hx hb dX0_leastNeed_40 (by decide +kernel) ?_
          refine g_cne (tgt := 48) hx hb dX0_leastNeed_41 (by decide) (by omega) (fun h4 => ?_) (fun h4 => ?_)
          · refine lv_aload hx hb dX0_leastNeed_48 (lv_at hl 1 rfl) ?_
            refine lv_aload hx hb dX0_leastNeed_50 (lv_at hl 2 rfl) ?_
            refine lv_iload hx hb dX0_leastNeed_52 (lv_at hl 0 rfl) ?_
            refine g_ci (va_runV (As := [.ref (ra y1), .int (zI (s9 : Int))]) (rest := []) ⟨hx, hb, hml, hown, hts⟩ (metX25_score (s0 := s9) (hR1 y1 (by omega)).1 (hR1 y1 (by omega)).2 hcx7 ⟨hwl.2.1, hwl.2.2, htL⟩ (by omega)) (cwV 2 hts (lw_V q2478 q2455 q2456 q154 q2457) rfl rfl rfl (by decide +kernel) ⟨Nat.le_of_ble_eq_true rfl, Nat.le_of_ble_eq_true rfl⟩) (g_preV hG (g_recv hG (hG.at 0 rfl) (ci := 23) rfl)) rfl rfl hl.1 rfl (lv_room (Nat.le_of_ble_eq_true rfl)) dX0_leastNeed_54 ⟨by show _ ≤ 560; omega, by show _ ≤ 13200; omega⟩) hG (fun r_27 F_28 V_29 ws_ H locs hp hG => ?_)
            obtain ⟨rfl, rfl, rfl, rfl⟩ := hp
            have hG : gW X G1 V ((cx, oB 23 [.ref cl7, va_rf al7, va_rf be7]) :: Z) s H locs := hG
            have hG : gW X G1 V (Z) s _ _ := hG.drop 0 rfl rfl
            refine vx_ret ?_
            exact g_iret hx hb hr hlocks hG (by have e9 : opLeast a (v1 : Int) (y1 : Int) = (((sc (wTx (aWd a) (kL KK)) (wTx (aWd a) y1) (kLP KK) (kLQ KK) s9 : Nat) : Int), a) := (by rw [opLeast_s hb9 (by omega) (by omega) hKK, hlk]); rw [e9]; exact ⟨hle_G1, rfl, ((hS.mono hle_G1)).ex, rfl⟩) ⟨by show _ ≤ 560; omega, by show _ ≤ 13200; omega⟩ dX0_leastNeed_57
          · exfalso; omega
    · refine g_xr (vx_runV (As := [.int (zI y)]) (rest := []) ⟨hx, hb, hml, hown, hts⟩ (metX0_revision_f hS hA (by omega)) (cwV 1 hts (lw_V q737 q739 qs4 q87 q740) rfl rfl rfl (by decide +kernel) ⟨Nat.le_of_ble_eq_true rfl, Nat.le_of_ble_eq_true rfl⟩) (g_preV hG (g_recv hG (hG.vo hx0) (ci := 0) rfl)) rfl rfl hl.1 rfl (lv_room (Nat.le_of_ble_eq_true rfl)) dX0_leastNeed_8 ⟨by show _ ≤ 560; omega, by show _ ≤ 13200; omega⟩) hG (fun E9 ce9 q9 Fx_33 Vx_34 ws_ H locs hpx hG hce => ?_) (fun r_30 F_31 V_32 ws_ H locs hp hG => ?_)
      · obtain ⟨rfl, hle_Fx_33, hq9, rfl, rfl⟩ := hpx
        have hG : gW X Fx_33 V (Z) s H locs := hG
        refine g_catch (name := "LineRemarks$Refused") hown htab [] ⟨0, 57, 58, 21⟩ [] rfl (fun z9 hz9 => absurd hz9 List.not_mem_nil) (by decide) (by decide) (hts _ q410) (hG.1.2.1.1 _ qn498) hce ?_
        refine lv_astore_n (lv' := [(3, .ref q9), (0, .ref x), (1, .int (zI (v1 : Int))), (2, .int (zI y))]) hx hb dX0_leastNeed_58 rfl hl (by decide) rfl (fun ls hl => ?_)
        refine lv_aload_n hx hb dX0_leastNeed_59 rfl (lv_at hl 1 rfl) ?_
        refine lv_aload_n hx hb dX0_leastNeed_60 rfl (lv_at hl 0 rfl) ?_
        refine g_ci (va_runV (As := [.ref q9]) (rest := []) ⟨hx, hb, hml, hown, hts⟩ (metX0_refused (k := 1) (hS.mono hle_Fx_33) hA hq9 (by decide)) (cwV 1 hts (lw_V q589 q591 qs2 q87 q592) rfl rfl rfl (by decide +kernel) ⟨Nat.le_of_ble_eq_true rfl, Nat.le_of_ble_eq_true rfl⟩) (g_preV hG (g_recv hG (hG.vo hx0) (ci := 0) rfl)) rfl rfl hl.1 rfl (lv_room (Nat.le_of_ble_eq_true rfl)) dX0_leastNeed_61 ⟨by show _ ≤ 560; omega, by show _ ≤ 13200; omega⟩) hG (fun r_35 F_36 V_37 ws_ H locs hp hG => ?_)
        obtain ⟨rfl, rfl, hS9, rfl⟩ := hp
        have hG : gW X Fx_33 V_37 (Z) s H locs := hG
        refine lv_bipush (v := zI 10) hx hb dX0_leastNeed_64 (by decide +kernel) ?_
        refine g_isub hx hb dX0_leastNeed_66 ?_
        refine vx_ret ?_
        exact g_iret hx hb hr hlocks hG (by have e9 : opLeast a (v1 : Int) y = aNoT a 1 := (by unfold opLeast; rw [if_pos (by omega)]; first | done | rfl); rw [e9]; exact ⟨hle_Fx_33, rfl, hS9.ex, rfl⟩) ⟨by show _ ≤ 560; omega, by show _ ≤ 13200; omega⟩ dX0_leastNeed_67
      exact hp.elim
  · refine g_xr (vx_runV (As := [.int (zI v)]) (rest := []) ⟨hx, hb, hml, hown, hts⟩ (metX0_told_f hS hA (by omega)) (cwV 1 hts (lw_V q700 q702 qs3 q87 q703) rfl rfl rfl (by decide +kernel) ⟨Nat.le_of_ble_eq_true rfl, Nat.le_of_ble_eq_true rfl⟩) (g_preV hG (g_recv hG (hG.vo hx0) (ci := 0) rfl)) rfl rfl hl.1 rfl (lv_room (Nat.le_of_ble_eq_true rfl)) dX0_leastNeed_2 ⟨by show _ ≤ 560; omega, by show _ ≤ 13200; omega⟩) hG (fun E9 ce9 q9 Fx_41 Vx_42 ws_ H locs hpx hG hce => ?_) (fun r_38 F_39 V_40 ws_ H locs hp hG => ?_)
    · obtain ⟨rfl, hle_Fx_41, hq9, rfl, rfl⟩ := hpx
      have hG : gW X Fx_41 V (Z) s H locs := hG
      refine g_catch (name := "LineRemarks$Refused") hown htab [] ⟨0, 57, 58, 21⟩ [] rfl (fun z9 hz9 => absurd hz9 List.not_mem_nil) (by decide) (by decide) (hts _ q410) (hG.1.2.1.1 _ qn498) hce ?_
      refine lv_astore_n (lv' := [(3, .ref q9), (0, .ref x), (1, .int (zI v)), (2, .int (zI y))]) hx hb dX0_leastNeed_58 rfl hl (by decide) rfl (fun ls hl => ?_)
      refine lv_aload_n hx hb dX0_leastNeed_59 rfl (lv_at hl 1 rfl) ?_
      refine lv_aload_n hx hb dX0_leastNeed_60 rfl (lv_at hl 0 rfl) ?_
      refine g_ci (va_runV (As := [.ref q9]) (rest := []) ⟨hx, hb, hml, hown, hts⟩ (metX0_refused (k := 1) (hS.mono hle_Fx_41) hA hq9 (by decide)) (cwV 1 hts (lw_V q589 q591 qs2 q87 q592) rfl rfl rfl (by decide +kernel) ⟨Nat.le_of_ble_eq_true rfl, Nat.le_of_ble_eq_true rfl⟩) (g_preV hG (g_recv hG (hG.vo hx0) (ci := 0) rfl)) rfl rfl hl.1 rfl (lv_room (Nat.le_of_ble_eq_true rfl)) dX0_leastNeed_61 ⟨by show _ ≤ 560; omega, by show _ ≤ 13200; omega⟩) hG (fun r_43 F_44 V_45 ws_ H locs hp hG => ?_)
      obtain ⟨rfl, rfl, hS9, rfl⟩ := hp
      have hG : gW X Fx_41 V_45 (Z) s H locs := hG
      refine lv_bipush (v := zI 10) hx hb dX0_leastNeed_64 (by decide +kernel) ?_
      refine g_isub hx hb dX0_leastNeed_66 ?_
      refine vx_ret ?_
      exact g_iret hx hb hr hlocks hG (by have e9 : opLeast a v y = aNoT a 1 := (by unfold opLeast; rw [if_pos (by omega)]; first | done | rfl); rw [e9]; exact ⟨hle_Fx_41, rfl, hS9.ex, rfl⟩) ⟨by show _ ≤ 560; omega, by show _ ≤ 13200; omega⟩ dX0_leastNeed_67
    exact hp.elim

