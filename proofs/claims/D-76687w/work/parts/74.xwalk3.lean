set_option maxRecDepth 100000
theorem wkTo_f {w : aW} {r : Rm} {kd t f n : Nat} (hf : wFo w t = some f) : ∀ d, d ≤ n → wkTo w r kd t (n + 1) d = wkTo w r kd f n d := by
  intro d
  induction d with
  | zero => intro _; rfl
  | succ d ih =>
    intro h
    show wkStep w kd (rBy r) (anc (wFo w) (n + 1 - (d + 1)) t) (wkTo w r kd t (n + 1) d) = wkStep w kd (rBy r) (anc (wFo w) (n - (d + 1)) f) (wkTo w r kd f n d)
    rw [ih (by omega), show n + 1 - (d + 1) = (n - (d + 1)) + 1 by omega, anc_S hf]
theorem beh_pos {fo : Nat → Option Nat} (hf : ∀ r f, fo r = some f → f < r) {t r n : Nat} (h : beh fo t r = some (n + 1)) : ∃ f, fo t = some f ∧ beh fo f r = some n := by
  have hne : t ≠ r := by rintro rfl; rw [beh_self] at h; cases h
  rw [beh_step hf hne] at h
  cases hq : fo t with
  | none => rw [hq] at h; cases h
  | some f =>
    rw [hq] at h
    have h : (beh fo f r).map (· + 1) = some (n + 1) := h
    refine ⟨f, rfl, ?_⟩
    cases hb : beh fo f r with
    | none => rw [hb] at h; cases h
    | some z => rw [hb] at h; have h : some (z + 1) = some (n + 1) := h; have := Option.some.inj h; rw [show z = n by omega]
set_option maxHeartbeats 4000000 in
theorem metX23_to {l : Launch} {X : gX} {F : gF} {V : gV} {Z : va_W} {wk sp cx wa rm t cl n : Nat} {h9 p9 q9 : Int} {al be : Option Nat} {v3 v4 : Value} {w : aW} {ra la : Nat → Nat} (hR : xRv X F w ra la) (hK : wOK w) {rvA rkA stA : Nat} (hw : V 4 = some (wa, xwE w rvA rkA stA)) {i9 kd : Nat} {r : Rm} (hrm : isRmk F ra rm kd i9 r) (hkd : kd ≤ 6) (hro : rBy r ≤ 9 ∧ rOn r < wN w ∧ rP r ≤ rQ r ∧ rQ r < (wTx w (rOn r)).length) (ht9 : t < wN w) (hbh : beh (wFo w) t (rOn r) = some n) : Met l yX23_to (ws_ yX23_to cX23_to 5 (some (FieldType.object "LineRemarks$Walk"))) ({ frames := 8, cells := 547, slots := 13050, locals := 179 }) (gP X F V ((wk, oB 21 [.ref sp, .ref cx, .ref wa, v3, v4, .int (zI h9)]) :: (sp, oB 22 [.int (zI p9), .int (zI q9)]) :: (cx, oB 23 [.ref cl, va_rf al, va_rf be]) :: Z) [.ref wk, .ref rm, .ref (ra t)]) (gQr X (fun u G U ws => gLe F G ∧ V = U ∧ u = wk ∧ ∃ (h8 p8 q8 : Int) (cl8 : Nat) (al8 be8 : Option Nat), xWk X G w (wkTo w r kd t n n) h8 p8 q8 t cl8 al8 be8 ∧ ((wk, oB 21 [.ref sp, .ref cx, .ref wa, .ref rm, .ref (ra t), .int (zI h8)]) :: (sp, oB 22 [.int (zI p8), .int (zI q8)]) :: (cx, oB 23 [.ref cl8, va_rf al8, va_rf be8]) :: Z) = ws)) 547 13050 (gA X) := by
  refine Met.g (by decide) (Nat.le_of_ble_eq_true rfl) ?_
  intro p e s m below meth c ls hx hb hr hts hown hlocks hml hin hG hl
  have hl : lv_has ls 5 [(0, .ref wk), (1, .ref rm), (2, .ref (ra t))] := hl
  obtain ⟨hle, hfo, hend⟩ := beh_anc hK.fo n t (rOn r) hbh
  have hNN := hK.n
  have hn16 := hle n (Nat.le_refl n)
  refine lv_aload_n hx hb dX23_to_0 rfl (lv_at hl 0 rfl) ?_
  refine lv_aload_n hx hb dX23_to_1 rfl (lv_at hl 1 rfl) ?_
  refine g_cv (va_runV (As := [.ref rm]) (rest := []) ⟨hx, hb, hml, hown, hts⟩ (metX23_begin hrm hkd) (cwV 1 hts (lw_V q2355 q2356 q2357 q152 q2358) rfl rfl rfl (by decide +kernel) ⟨Nat.le_of_ble_eq_true rfl, Nat.le_of_ble_eq_true rfl⟩) (g_preV hG (g_recv hG (hG.at 0 rfl) (ci := 21) rfl)) rfl rfl hl.1 rfl (lv_room (Nat.le_of_ble_eq_true rfl)) dX23_to_2 ⟨Nat.le_of_ble_eq_true rfl, Nat.le_of_ble_eq_true rfl⟩) hG (fun F_2 V_3 ws_ H locs hp hG => ?_)
  obtain ⟨rfl, rfl, rfl⟩ := hp
  have hG : gW X F V ((wk, oB 21 [.ref sp, .ref cx, .ref wa, .ref rm, .ref (ra (rOn r)), .int (zI 0)]) :: (sp, oB 22 [.int (zI (rP r : Int)), .int (zI (rQ r : Int))]) :: (cx, oB 23 [.ref cl, va_rf al, va_rf be]) :: Z) s H locs := hG
  refine lv_aload_n hx hb dX23_to_5 rfl (lv_at hl 2 rfl) ?_
  refine lv_aload_n hx hb dX23_to_6 rfl (lv_at hl 1 rfl) ?_
  refine g_rmget hx hb hkd hts hown hG (hG.fz hrm) 2 (by decide) (hts _ q2081) rfl dX23_to_7 ?_
  refine g_cr (va_runV (As := [.ref (ra (rOn r))]) (rest := []) ⟨hx, hb, hml, hown, hts⟩ (metX14_since hR hK ht9 hro.2.1 hbh) (cwV 1 hts (lw_V q2363 q1957 q1958 q140 q1959) rfl rfl rfl (by decide +kernel) ⟨Nat.le_of_ble_eq_true rfl, Nat.le_of_ble_eq_true rfl⟩) (g_preV hG (rev_recv hG (hR t ht9).1)) rfl rfl hl.1 rfl (lv_room (Nat.le_of_ble_eq_true rfl)) dX23_to_10 ⟨by show _ ≤ 547; omega, by show _ ≤ 13050; omega⟩) hG (fun dq F_4 V_5 ws_ H locs hp hG => ?_)
  obtain ⟨rfl, rfl, es, hq0, fq, hdq, rfl⟩ := hp
  have hG : gW X F V ((dq, oB 30 [.ref es, .int (zI (hq0 : Int)), .int (zI 0)]) :: (es, aR (gT X 10) 17 fq) :: (wk, oB 21 [.ref sp, .ref cx, .ref wa, .ref rm, .ref (ra (rOn r)), .int (zI 0)]) :: (sp, oB 22 [.int (zI (rP r : Int)), .int (zI (rQ r : Int))]) :: (cx, oB 23 [.ref cl, va_rf al, va_rf be]) :: Z) s H locs := hG
  obtain ⟨L, hL⟩ : ∃ L, L = sncL (wFo w) ra t (n + 1) := ⟨_, rfl⟩
  rw [← hL] at hdq
  have hlen : L.length = n + 1 := by rw [hL]; exact sncL_len _ _ _ _
  refine g_cr (va_runV (As := []) (rest := []) ⟨hx, hb, hml, hown, hts⟩ (metJ36_iterator hdq) (cwV 0 hts (lw_V q2364 q1999 q2000 q139 q2001) rfl rfl rfl (by decide +kernel) ⟨Nat.le_of_ble_eq_true rfl, Nat.le_of_ble_eq_true rfl⟩) (g_preV hG (g_recv hG (hG.at 0 rfl) (ci := 30) rfl)) rfl rfl hl.1 rfl (lv_room (Nat.le_of_ble_eq_true rfl)) dX23_to_13 ⟨by show _ ≤ 547; omega, by show _ ≤ 13050; omega⟩) hG (fun it F_6 V_7 ws_ H locs hp hG => ?_)
  obtain ⟨rfl, rfl, rfl⟩ := hp
  have hG : gW X F V ((it, oB 31 [.int (zI (hq0 : Int)), .int (zI (L.length : Int)), .int (zI (-1)), .ref dq]) :: (dq, oB 30 [.ref es, .int (zI (hq0 : Int)), .int (zI 0)]) :: (es, aR (gT X 10) 17 fq) :: (wk, oB 21 [.ref sp, .ref cx, .ref wa, .ref rm, .ref (ra (rOn r)), .int (zI 0)]) :: (sp, oB 22 [.int (zI (rP r : Int)), .int (zI (rQ r : Int))]) :: (cx, oB 23 [.ref cl, va_rf al, va_rf be]) :: Z) s H locs := hG
  refine lv_astore_n (lv' := [(3, .ref it), (0, .ref wk), (1, .ref rm), (2, .ref (ra t))]) hx hb dX23_to_16 rfl hl (by decide) rfl (fun ls hl => ?_)
  have hG : gW X F V ((it, oB 31 [.int (zI (((hq0 + 0) % 17 : Nat) : Int)), .int (zI ((L.length - 0 : Nat) : Int)), .int (zI (-1)), .ref dq]) :: (dq, oB 30 [.ref es, .int (zI (hq0 : Int)), .int (zI 0)]) :: (es, aR (gT X 10) 17 fq) :: (wk, oB 21 [.ref sp, .ref cx, .ref wa, .ref rm, .ref (ra (rOn r)), .int (zI 0)]) :: (sp, oB 22 [.int (zI (rP r : Int)), .int (zI (rQ r : Int))]) :: (cx, oB 23 [.ref cl, va_rf al, va_rf be]) :: Z) s H locs := by rw [show (hq0 + 0) % 17 = hq0 from Nat.mod_eq_of_lt hdq.1, Nat.sub_zero]; exact hG
  refine g_loopA (fun mz H locs ls => ∃ (j : Nat) (F1 : gF) (h8 p8 q8 : Int) (cl8 : Nat) (al8 be8 : Option Nat) (t8 : Nat) (la8 : Int), (j ≤ n + 1 ∧ mz = n + 1 - j ∧ gLe F F1 ∧ t8 = anc (wFo w) (n - (j - 1)) t ∧ xWk X F1 w (wkTo w r kd t n (j - 1)) h8 p8 q8 t8 cl8 al8 be8) ∧ gW X F1 V ((it, oB 31 [.int (zI (((hq0 + j) % 17 : Nat) : Int)), .int (zI ((L.length - j : Nat) : Int)), .int (zI la8), .ref dq]) :: (dq, oB 30 [.ref es, .int (zI (hq0 : Int)), .int (zI 0)]) :: (es, aR (gT X 10) 17 fq) :: (wk, oB 21 [.ref sp, .ref cx, .ref wa, .ref rm, .ref (ra t8), .int (zI h8)]) :: (sp, oB 22 [.int (zI p8), .int (zI q8)]) :: (cx, oB 23 [.ref cl8, va_rf al8, va_rf be8]) :: Z) s H locs ∧ lv_has ls 5 [(0, .ref wk), (1, .ref rm), (2, .ref (ra t)), (3, .ref it)]) (n + 1 - 0) 34 814 547 13050 ⟨0, F, 0, (rP r : Int), (rQ r : Int), cl, al, be, (rOn r), (-1), ⟨by omega, rfl, gLe.rfl (V := V), hend.symm, xWk_to (o := 0) (k := wk0 r) rfl (by decide) hro.2.1 ⟨hro.2.2.1, hro.2.2.2⟩⟩, hG, (lv_sub hl [1, 2, 3, 0] rfl)⟩ ⟨by omega, by omega⟩ (fun mz ihA H locs ls cells slots hroom hI => ?_)
  obtain ⟨j, F1, h8, p8, q8, cl8, al8, be8, t8, la8, ⟨hj, hmz, hle_F1, ht8, hxk⟩, hG, hl⟩ := hI
  refine lv_aload_n hx hb dX23_to_17 rfl (lv_at hl 3 rfl) ?_
  refine g_Fi (va_runF (C := "java/util/ArrayDeque$DeqIterator") (g_cls hG (ci := 31) rfl) (As := []) (rest := []) ⟨hx, hb, hml, hown, hts⟩ (metJ39_hasNext (n := L.length - j) (by omega)) (va_cwF 0 hts (lw_F q2366 q1486 q1488 q144 q1490) rfl rfl rfl (hG.1.2.1.2.2.1 _ qf13) (by decide +kernel) ⟨Nat.le_of_ble_eq_true rfl, Nat.le_of_ble_eq_true rfl⟩) (g_preV hG (g_recv hG (hG.at 0 rfl) (ci := 31) rfl)) rfl rfl hl.1 rfl (lv_room (Nat.le_of_ble_eq_true rfl)) dX23_to_18 ⟨by show _ ≤ 547; omega, by show _ ≤ 13050; omega⟩) hG (fun r_8 F_9 V_10 ws_ H locs hp hG => ?_)
  obtain ⟨rfl, rfl, rfl, rfl⟩ := hp
  have hG : gW X F1 V ((it, oB 31 [.int (zI (((hq0 + j) % 17 : Nat) : Int)), .int (zI ((L.length - j : Nat) : Int)), .int (zI la8), .ref dq]) :: (dq, oB 30 [.ref es, .int (zI (hq0 : Int)), .int (zI 0)]) :: (es, aR (gT X 10) 17 fq) :: (wk, oB 21 [.ref sp, .ref cx, .ref wa, .ref rm, .ref (ra t8), .int (zI h8)]) :: (sp, oB 22 [.int (zI p8), .int (zI q8)]) :: (cx, oB 23 [.ref cl8, va_rf al8, va_rf be8]) :: Z) s H locs := hG
  by_cases hj0 : 0 < L.length - j
  · refine g_topz (y := 1) (by rw [decide_eq_true hj0]; rfl) ?_
    refine g_eq (tgt := 55) hx hb dX23_to_23 (by decide) (by decide) (fun h1 => ?_) (fun h1 => ?_)
    · exfalso; omega
    · have hnx : L.getD j 0 = ra (anc (wFo w) (n - j) t) := by rw [hL, sncL_get (by omega), show n + 1 - 1 - j = n - j by omega]
      have hlej := hle (n - j) (by omega)
      refine lv_aload_n hx hb dX23_to_26 rfl (lv_at hl 3 rfl) ?_
      refine g_Fr (va_runF (C := "java/util/ArrayDeque$DeqIterator") (g_cls hG (ci := 31) rfl) (As := []) (rest := []) ⟨hx, hb, hml, hown, hts⟩ (metJ39_next (k := j) hdq (by omega)) (va_cwF 0 hts (lw_F q2368 q1628 q1630 q144 q1632) rfl rfl rfl (hG.1.2.1.2.2.1 _ qf14) (by decide +kernel) ⟨Nat.le_of_ble_eq_true rfl, Nat.le_of_ble_eq_true rfl⟩) (g_preV hG (g_recv hG (hG.at 0 rfl) (ci := 31) rfl)) rfl rfl hl.1 rfl (lv_room (Nat.le_of_ble_eq_true rfl)) dX23_to_27 ⟨by show _ ≤ 547; omega, by show _ ≤ 13050; omega⟩) hG (fun r_11 F_12 V_13 ws_ H locs hp hG => ?_)
      obtain ⟨hu, rfl, rfl, rfl⟩ := hp
      rw [hnx] at hu
      subst hu
      have hG : gW X F1 V ((it, oB 31 [.int (zI (((hq0 + (j + 1)) % 17 : Nat) : Int)), .int (zI ((L.length - (j + 1) : Nat) : Int)), .int (zI (((hq0 + j) % 17 : Nat) : Int)), .ref dq]) :: (dq, oB 30 [.ref es, .int (zI (hq0 : Int)), .int (zI 0)]) :: (es, aR (gT X 10) 17 fq) :: (wk, oB 21 [.ref sp, .ref cx, .ref wa, .ref rm, .ref (ra t8), .int (zI h8)]) :: (sp, oB 22 [.int (zI p8), .int (zI q8)]) :: (cx, oB 23 [.ref cl8, va_rf al8, va_rf be8]) :: Z) s H locs := hG
      have hR1 := hR.mono hle_F1
      refine va_castE hx hb hown (hts _ q2369) (rev_recv hG (hR1 (anc (wFo w) (n - j) t) (by omega)).1) dX23_to_32 ?_
      refine lv_astore (lv' := [(4, .ref (ra (anc (wFo w) (n - j) t))), (0, .ref wk), (1, .ref rm), (2, .ref (ra t)), (3, .ref it)]) hx hb dX23_to_35 hl (by decide) rfl (fun ls hl => ?_)
      refine lv_aload hx hb dX23_to_37 (lv_at hl 0 rfl) ?_
      refine lv_aload_n hx hb dX23_to_39 rfl (lv_at hl 2 rfl) ?_
      refine g_rmget hx hb hkd hts hown hG (hG.fz (hle_F1.1 _ _ hrm)) 2 (by decide) (hts _ q2081) rfl dX23_to_40 ?_
      refine lv_acmp_eq (rx := (some (ra (anc (wFo w) (n - j) t)))) (ry := (some (ra (rOn r)))) (tgt := 52) hx hb dX23_to_43 (by decide) (fun h2 => ?_) (fun h2 => ?_)
      · have hj00 : j = 0 := by have := (anc_eq hK.fo hbh (show n - j ≤ n by omega)).mp (hR.inj (by omega) hro.2.1 (Option.some.inj h2)); omega
        refine lv_goto (tgt := 17) hx hb dX23_to_52 (by decide) ?_
        exact ihA (n + 1 - (j + 1)) (by omega) H locs ls _ _ (by omega) ⟨(j + 1), F1, h8, p8, q8, cl8, al8, be8, t8, _, ⟨by omega, rfl, hle_F1, by rw [ht8, hj00], by rw [hj00] at hxk; rw [hj00]; exact hxk⟩, hG, (lv_sub hl [1, 2, 3, 4] rfl)⟩
      · have hj00 : j ≠ 0 := fun q => h2 (by rw [(anc_eq hK.fo hbh (show n - j ≤ n by omega)).mpr (by omega)])
        obtain ⟨d, rfl⟩ : ∃ z, j = z + 1 := ⟨j - 1, by omega⟩
        rw [Nat.add_sub_cancel] at ht8 hxk
        have hfd : wFo w (anc (wFo w) (n - (d + 1)) t) = some (anc (wFo w) (n - d) t) := by have := hfo (n - (d + 1)) (by omega); rw [show n - (d + 1) + 1 = n - d by omega] at this; exact this
        refine lv_aload_n hx hb dX23_to_46 rfl (lv_at hl 1 rfl) ?_
        refine lv_aload hx hb dX23_to_47 (lv_at hl 0 rfl) ?_
        have hG : gW X F1 V ((cx, oB 23 [.ref cl8, va_rf al8, va_rf be8]) :: (it, oB 31 [.int (zI (((hq0 + ((d + 1) + 1)) % 17 : Nat) : Int)), .int (zI ((L.length - ((d + 1) + 1) : Nat) : Int)), .int (zI (((hq0 + (d + 1)) % 17 : Nat) : Int)), .ref dq]) :: (dq, oB 30 [.ref es, .int (zI (hq0 : Int)), .int (zI 0)]) :: (es, aR (gT X 10) 17 fq) :: (wk, oB 21 [.ref sp, .ref cx, .ref wa, .ref rm, .ref (ra t8), .int (zI h8)]) :: (sp, oB 22 [.int (zI p8), .int (zI q8)]) :: Z) s _ _ := hG.pull 5 rfl rfl
        have hG : gW X F1 V ((sp, oB 22 [.int (zI p8), .int (zI q8)]) :: (cx, oB 23 [.ref cl8, va_rf al8, va_rf be8]) :: (it, oB 31 [.int (zI (((hq0 + ((d + 1) + 1)) % 17 : Nat) : Int)), .int (zI ((L.length - ((d + 1) + 1) : Nat) : Int)), .int (zI (((hq0 + (d + 1)) % 17 : Nat) : Int)), .ref dq]) :: (dq, oB 30 [.ref es, .int (zI (hq0 : Int)), .int (zI 0)]) :: (es, aR (gT X 10) 17 fq) :: (wk, oB 21 [.ref sp, .ref cx, .ref wa, .ref rm, .ref (ra t8), .int (zI h8)]) :: Z) s _ _ := hG.pull 5 rfl rfl
        have hG : gW X F1 V ((wk, oB 21 [.ref sp, .ref cx, .ref wa, .ref rm, .ref (ra t8), .int (zI h8)]) :: (sp, oB 22 [.int (zI p8), .int (zI q8)]) :: (cx, oB 23 [.ref cl8, va_rf al8, va_rf be8]) :: (it, oB 31 [.int (zI (((hq0 + ((d + 1) + 1)) % 17 : Nat) : Int)), .int (zI ((L.length - ((d + 1) + 1) : Nat) : Int)), .int (zI (((hq0 + (d + 1)) % 17 : Nat) : Int)), .ref dq]) :: (dq, oB 30 [.ref es, .int (zI (hq0 : Int)), .int (zI 0)]) :: (es, aR (gT X 10) 17 fq) :: Z) s _ _ := hG.pull 5 rfl rfl
        refine g_cv (va_runV (As := [.ref (ra (anc (wFo w) (n - (d + 1)) t))]) (rest := []) ⟨hx, hb, hml, hown, hts⟩ (metX23_step (b := (anc (wFo w) (n - (d + 1)) t)) hR1 hK hxk (by omega) hfd (fun h => (hxk.2.2.2.1 h).1.symm.trans ht8) hw (hle_F1.1 _ _ hrm) hkd hro.1) (cwV 1 hts (lw_V q2370 q2371 q2372 q152 q2373) rfl rfl rfl (by decide +kernel) ⟨Nat.le_of_ble_eq_true rfl, Nat.le_of_ble_eq_true rfl⟩) (g_preV hG (g_recv hG (hG.at 0 rfl) (ci := 21) rfl)) rfl rfl hl.1 rfl (lv_room (Nat.le_of_ble_eq_true rfl)) dX23_to_49 ⟨by show _ ≤ 547; omega, by show _ ≤ 13050; omega⟩) hG (fun G2 V_15 ws_ H locs hp hG => ?_)
        obtain ⟨hle_G2, rfl, h7, p7, q7, cl7, al7, be7, hk7, rfl⟩ := hp
        have hG : gW X G2 V ((wk, oB 21 [.ref sp, .ref cx, .ref wa, .ref rm, .ref (ra (anc (wFo w) (n - (d + 1)) t)), .int (zI h7)]) :: (sp, oB 22 [.int (zI p7), .int (zI q7)]) :: (cx, oB 23 [.ref cl7, va_rf al7, va_rf be7]) :: (it, oB 31 [.int (zI (((hq0 + ((d + 1) + 1)) % 17 : Nat) : Int)), .int (zI ((L.length - ((d + 1) + 1) : Nat) : Int)), .int (zI (((hq0 + (d + 1)) % 17 : Nat) : Int)), .ref dq]) :: (dq, oB 30 [.ref es, .int (zI (hq0 : Int)), .int (zI 0)]) :: (es, aR (gT X 10) 17 fq) :: Z) s H locs := hG
        refine lv_goto (tgt := 17) hx hb dX23_to_52 (by decide) ?_
        have hG : gW X G2 V ((cx, oB 23 [.ref cl7, va_rf al7, va_rf be7]) :: (wk, oB 21 [.ref sp, .ref cx, .ref wa, .ref rm, .ref (ra (anc (wFo w) (n - (d + 1)) t)), .int (zI h7)]) :: (sp, oB 22 [.int (zI p7), .int (zI q7)]) :: (it, oB 31 [.int (zI (((hq0 + ((d + 1) + 1)) % 17 : Nat) : Int)), .int (zI ((L.length - ((d + 1) + 1) : Nat) : Int)), .int (zI (((hq0 + (d + 1)) % 17 : Nat) : Int)), .ref dq]) :: (dq, oB 30 [.ref es, .int (zI (hq0 : Int)), .int (zI 0)]) :: (es, aR (gT X 10) 17 fq) :: Z) s _ _ := hG.pull 2 rfl rfl
        have hG : gW X G2 V ((sp, oB 22 [.int (zI p7), .int (zI q7)]) :: (cx, oB 23 [.ref cl7, va_rf al7, va_rf be7]) :: (wk, oB 21 [.ref sp, .ref cx, .ref wa, .ref rm, .ref (ra (anc (wFo w) (n - (d + 1)) t)), .int (zI h7)]) :: (it, oB 31 [.int (zI (((hq0 + ((d + 1) + 1)) % 17 : Nat) : Int)), .int (zI ((L.length - ((d + 1) + 1) : Nat) : Int)), .int (zI (((hq0 + (d + 1)) % 17 : Nat) : Int)), .ref dq]) :: (dq, oB 30 [.ref es, .int (zI (hq0 : Int)), .int (zI 0)]) :: (es, aR (gT X 10) 17 fq) :: Z) s _ _ := hG.pull 2 rfl rfl
        have hG : gW X G2 V ((wk, oB 21 [.ref sp, .ref cx, .ref wa, .ref rm, .ref (ra (anc (wFo w) (n - (d + 1)) t)), .int (zI h7)]) :: (sp, oB 22 [.int (zI p7), .int (zI q7)]) :: (cx, oB 23 [.ref cl7, va_rf al7, va_rf be7]) :: (it, oB 31 [.int (zI (((hq0 + ((d + 1) + 1)) % 17 : Nat) : Int)), .int (zI ((L.length - ((d + 1) + 1) : Nat) : Int)), .int (zI (((hq0 + (d + 1)) % 17 : Nat) : Int)), .ref dq]) :: (dq, oB 30 [.ref es, .int (zI (hq0 : Int)), .int (zI 0)]) :: (es, aR (gT X 10) 17 fq) :: Z) s _ _ := hG.pull 2 rfl rfl
        have hG : gW X G2 V ((es, aR (gT X 10) 17 fq) :: (wk, oB 21 [.ref sp, .ref cx, .ref wa, .ref rm, .ref (ra (anc (wFo w) (n - (d + 1)) t)), .int (zI h7)]) :: (sp, oB 22 [.int (zI p7), .int (zI q7)]) :: (cx, oB 23 [.ref cl7, va_rf al7, va_rf be7]) :: (it, oB 31 [.int (zI (((hq0 + ((d + 1) + 1)) % 17 : Nat) : Int)), .int (zI ((L.length - ((d + 1) + 1) : Nat) : Int)), .int (zI (((hq0 + (d + 1)) % 17 : Nat) : Int)), .ref dq]) :: (dq, oB 30 [.ref es, .int (zI (hq0 : Int)), .int (zI 0)]) :: Z) s _ _ := hG.pull 5 rfl rfl
        have hG : gW X G2 V ((dq, oB 30 [.ref es, .int (zI (hq0 : Int)), .int (zI 0)]) :: (es, aR (gT X 10) 17 fq) :: (wk, oB 21 [.ref sp, .ref cx, .ref wa, .ref rm, .ref (ra (anc (wFo w) (n - (d + 1)) t)), .int (zI h7)]) :: (sp, oB 22 [.int (zI p7), .int (zI q7)]) :: (cx, oB 23 [.ref cl7, va_rf al7, va_rf be7]) :: (it, oB 31 [.int (zI (((hq0 + ((d + 1) + 1)) % 17 : Nat) : Int)), .int (zI ((L.length - ((d + 1) + 1) : Nat) : Int)), .int (zI (((hq0 + (d + 1)) % 17 : Nat) : Int)), .ref dq]) :: Z) s _ _ := hG.pull 5 rfl rfl
        have hG : gW X G2 V ((it, oB 31 [.int (zI (((hq0 + ((d + 1) + 1)) % 17 : Nat) : Int)), .int (zI ((L.length - ((d + 1) + 1) : Nat) : Int)), .int (zI (((hq0 + (d + 1)) % 17 : Nat) : Int)), .ref dq]) :: (dq, oB 30 [.ref es, .int (zI (hq0 : Int)), .int (zI 0)]) :: (es, aR (gT X 10) 17 fq) :: (wk, oB 21 [.ref sp, .ref cx, .ref wa, .ref rm, .ref (ra (anc (wFo w) (n - (d + 1)) t)), .int (zI h7)]) :: (sp, oB 22 [.int (zI p7), .int (zI q7)]) :: (cx, oB 23 [.ref cl7, va_rf al7, va_rf be7]) :: Z) s _ _ := hG.pull 5 rfl rfl
        exact ihA (n + 1 - (d + 1 + 1)) (by omega) H locs ls _ _ (by omega) ⟨(d + 1 + 1), G2, h7, p7, q7, cl7, al7, be7, (anc (wFo w) (n - (d + 1)) t), _, ⟨by omega, rfl, hle_F1.tr hle_G2, rfl, hk7⟩, hG, (lv_sub hl [1, 2, 3, 4] rfl)⟩
  · refine g_topz (y := 0) (by rw [decide_eq_false (by omega)]; rfl) ?_
    have hjn : j = n + 1 := by omega
    subst hjn
    have ht8 : t8 = t := by rw [ht8, show n - (n + 1 - 1) = 0 by omega]; rfl
    refine g_eq (tgt := 55) hx hb dX23_to_23 (by decide) (by decide) (fun h1 => ?_) (fun h1 => ?_)
    · refine lv_aload_n hx hb dX23_to_55 rfl (lv_at hl 0 rfl) ?_
      have hG : gW X F1 V ((dq, oB 30 [.ref es, .int (zI (hq0 : Int)), .int (zI 0)]) :: (es, aR (gT X 10) 17 fq) :: (wk, oB 21 [.ref sp, .ref cx, .ref wa, .ref rm, .ref (ra t8), .int (zI h8)]) :: (sp, oB 22 [.int (zI p8), .int (zI q8)]) :: (cx, oB 23 [.ref cl8, va_rf al8, va_rf be8]) :: Z) s _ _ := hG.drop 0 rfl rfl
      have hG : gW X F1 V ((es, aR (gT X 10) 17 fq) :: (wk, oB 21 [.ref sp, .ref cx, .ref wa, .ref rm, .ref (ra t8), .int (zI h8)]) :: (sp, oB 22 [.int (zI p8), .int (zI q8)]) :: (cx, oB 23 [.ref cl8, va_rf al8, va_rf be8]) :: Z) s _ _ := hG.drop 0 rfl rfl
      have hG : gW X F1 V ((wk, oB 21 [.ref sp, .ref cx, .ref wa, .ref rm, .ref (ra t8), .int (zI h8)]) :: (sp, oB 22 [.int (zI p8), .int (zI q8)]) :: (cx, oB 23 [.ref cl8, va_rf al8, va_rf be8]) :: Z) s _ _ := hG.drop 0 rfl rfl
      exact g_rret hx hb hr (Or.inl ⟨_, rfl⟩) hlocks hG (⟨hle_F1, rfl, rfl, h8, p8, q8, cl8, al8, be8, by rw [Nat.add_sub_cancel, ht8] at hxk; exact hxk, by rw [ht8]⟩) ⟨by omega, by omega⟩ dX23_to_56
    · exfalso; omega

set_option maxHeartbeats 4000000 in
theorem metX23_aheadOf {l : Launch} {X : gX} {F : gF} {V : gV} {Z : va_W} {wk sp cx wa rm t cl n : Nat} {h9 p9 q9 : Int} {al be : Option Nat} {v3 v4 : Value} {w : aW} {ra la : Nat → Nat} (hR : xRv X F w ra la) (hK : wOK w) {rvA rkA stA : Nat} (hw : V 4 = some (wa, xwE w rvA rkA stA)) {i9 kd : Nat} {r : Rm} (hrm : isRmk F ra rm kd i9 r) (hkd : kd ≤ 6) (hro : rBy r ≤ 9 ∧ rOn r < wN w ∧ rP r ≤ rQ r ∧ rQ r < (wTx w (rOn r)).length) (ht9 : t < wN w) (hbh : beh (wFo w) t (rOn r) = some (n + 1)) : Met l yX23_aheadOf (ws_ yX23_aheadOf cX23_aheadOf 3 (some (FieldType.object "LineRemarks$Context"))) ({ frames := 9, cells := 548, slots := 13074, locals := 203 }) (gP X F V ((wk, oB 21 [.ref sp, .ref cx, .ref wa, v3, v4, .int (zI h9)]) :: (sp, oB 22 [.int (zI p9), .int (zI q9)]) :: (cx, oB 23 [.ref cl, va_rf al, va_rf be]) :: Z) [.ref wk, .ref rm, .ref (ra t)]) (gQr X (fun u G U ws => gLe F G ∧ V = U ∧ u = cx ∧ ∃ (cl7 : Nat) (al7 be7 : Option Nat), cxR X G cl7 al7 be7 (wTx w (kL (wkTo w r kd t (n + 1) n))) (kLP (wkTo w r kd t (n + 1) n)) (kLQ (wkTo w r kd t (n + 1) n)) ∧ ((cx, oB 23 [.ref cl7, va_rf al7, va_rf be7]) :: Z) = ws)) 548 13074 (gA X) := by
  refine Met.g (by decide) (Nat.le_of_ble_eq_true rfl) ?_
  intro p e s m below meth c ls hx hb hr hts hown hlocks hml hin hG hl
  have hl : lv_has ls 3 [(0, .ref wk), (1, .ref rm), (2, .ref (ra t))] := hl
  obtain ⟨f, hf, hbf⟩ := beh_pos hK.fo hbh
  have hft := hK.fo t f hf
  have hRt := hR t ht9
  rw [hf] at hRt
  refine lv_aload_n hx hb dX23_aheadOf_0 rfl (lv_at hl 0 rfl) ?_
  refine lv_aload_n hx hb dX23_aheadOf_1 rfl (lv_at hl 1 rfl) ?_
  refine lv_aload_n hx hb dX23_aheadOf_2 rfl (lv_at hl 2 rfl) ?_
  obtain ⟨vc_1, hrvc_1, hgvc_1⟩ := hG.rv hRt.1
  refine g_get (ci := 12) hx hb hts in_X14 hown hG hrvc_1 rfl 1 (Nat.le_of_ble_eq_true rfl) (hts _ q1723) (fun _ h9 => h9) rfl dX23_aheadOf_3 ?_
  refine g_cr (va_runV (As := [.ref rm, .ref (ra f)]) (rest := []) ⟨hx, hb, hml, hown, hts⟩ (metX23_to (t := f) hR hK hw hrm hkd hro (by omega) hbf) (cwV 2 hts (lw_V q2476 q2352 q2353 q152 q2354) rfl rfl rfl (by decide +kernel) ⟨Nat.le_of_ble_eq_true rfl, Nat.le_of_ble_eq_true rfl⟩) (g_preV hG (g_recv hG (hG.at 0 rfl) (ci := 21) rfl)) rfl rfl hl.1 rfl (lv_room (Nat.le_of_ble_eq_true rfl)) dX23_aheadOf_6 ⟨by show _ ≤ 548; omega, by show _ ≤ 13074; omega⟩) hG (fun r_2 G1 V_3 ws_ H locs hp hG => ?_)
  obtain ⟨hle_G1, rfl, hu, h8, p8, q8, cl8, al8, be8, hk8, rfl⟩ := hp
  have hG : gW X G1 V ((wk, oB 21 [.ref sp, .ref cx, .ref wa, .ref rm, .ref (ra f), .int (zI h8)]) :: (sp, oB 22 [.int (zI p8), .int (zI q8)]) :: (cx, oB 23 [.ref cl8, va_rf al8, va_rf be8]) :: Z) s H locs := hG
  refine lv_pop hx hb dX23_aheadOf_9 rfl ?_
  refine lv_aload_n hx hb dX23_aheadOf_10 rfl (lv_at hl 0 rfl) ?_
  refine g_cv (va_runV (As := []) (rest := []) ⟨hx, hb, hml, hown, hts⟩ (metX23_keep (hR.mono hle_G1) hK hk8) (cwV 0 hts (lw_V q2374 q2375 q2376 q152 q2377) rfl rfl rfl (by decide +kernel) ⟨Nat.le_of_ble_eq_true rfl, Nat.le_of_ble_eq_true rfl⟩) (g_preV hG (g_recv hG (hG.at 0 rfl) (ci := 21) rfl)) rfl rfl hl.1 rfl (lv_room (Nat.le_of_ble_eq_true rfl)) dX23_aheadOf_11 ⟨by show _ ≤ 548; omega, by show _ ≤ 13074; omega⟩) hG (fun G2 V_5 ws_ H locs hp hG => ?_)
  obtain ⟨hle_G2, rfl, cl7, al7, be7, hcx7, rfl⟩ := hp
  have hG : gW X G2 V ((wk, oB 21 [.ref sp, .ref cx, .ref wa, .ref rm, .ref (ra f), .int (zI h8)]) :: (sp, oB 22 [.int (zI p8), .int (zI q8)]) :: (cx, oB 23 [.ref cl7, va_rf al7, va_rf be7]) :: Z) s H locs := hG
  refine lv_aload_n hx hb dX23_aheadOf_14 rfl (lv_at hl 0 rfl) ?_
  refine g_get (ci := 21) hx hb hts in_X23 hown hG (hG.at 0 rfl) rfl 1 (Nat.le_of_ble_eq_true rfl) (hts _ q2332) (fun _ h9 => h9) rfl dX23_aheadOf_15 ?_
  have hG : gW X G2 V ((sp, oB 22 [.int (zI p8), .int (zI q8)]) :: (cx, oB 23 [.ref cl7, va_rf al7, va_rf be7]) :: Z) s _ _ := hG.drop 0 rfl rfl
  have hG : gW X G2 V ((cx, oB 23 [.ref cl7, va_rf al7, va_rf be7]) :: Z) s _ _ := hG.drop 0 rfl rfl
  exact g_rret hx hb hr (Or.inl ⟨_, rfl⟩) hlocks hG (⟨hle_G1.tr hle_G2, rfl, rfl, cl7, al7, be7, by rw [wkTo_f hf n (Nat.le_refl n)]; exact hcx7, rfl⟩) ⟨by show _ ≤ 548; omega, by show _ ≤ 13074; omega⟩ dX23_aheadOf_18

