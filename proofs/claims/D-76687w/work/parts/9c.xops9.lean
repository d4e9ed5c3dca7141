set_option maxRecDepth 100000
section XS9
variable {X : gX} {F G : gF} {V U : gV} {x : Nat} {a : aS} {sa rf tr tb kl wa rv rk st : Nat} {sh ra la ma : Nat → Nat} {im : Option Nat}
theorem shR_ok {v : aW} {y : aSh} {M : Nat} (h : shOK M y) : shOK (wM v) (shR v y) := by
  rcases y with _ | m | ⟨so, n, f⟩
  · exact h
  · unfold shR
    split
    · rename_i hm; cases hm; split
      · assumption
      · trivial
    · rename_i hm; exact absurd rfl (hm m)
  · exact h
/-- the imaged world becomes the world -/
theorem xS.setR {v : aW} {wi rv8 rk8 st8 : Nat} {rai lai mai : Nat → Nat} (h : xS X F V x a sa rf tr tb kl wa rv rk st sh ra la ma im) (e : ∀ r, r ≠ 0 → (r < 4 ∨ 8 ≤ r) → (r < 20 ∨ 28 ≤ r) → U r = V r) (h0 : U 0 = some (x, oB 0 [.ref sa, .ref rf, .ref tr, .ref kl, .ref wi, va_rf im, .int (zI (aFa a))])) (hW : xWd X F U 4 v wi rv8 rk8 st8 rai lai mai) (hs : ∀ i, i < 8 → xSh X F U mai i (sh i) (shR v (aSv a i))) : xS X F U x (aShR a v 8) sa rf tr tb kl wi rv8 rk8 st8 sh rai lai mai im := by
  obtain ⟨-, h1, ⟨g, h2, h2'⟩, h3, h4, h5, h6, h7⟩ := h
  refine ⟨h0, h1, ⟨g, (e 1 (by omega) (by omega) (by omega)).trans h2, h2'⟩, h3.cg ⟨e 2 (by omega) (by omega) (by omega), e 3 (by omega) (by omega) (by omega)⟩, h4, hW, h6.cg (fun r r1 r2 => e r (by omega) (by omega) (by omega)), fun i hi => ?_⟩
  show xSh X F U mai i (sh i) (if i < 8 then shR v (aSv a i) else aSv a i)
  rw [if_pos hi]
  exact hs i hi
end XS9
set_option maxHeartbeats 4000000 in
theorem metX0_status {l : Launch} {X : gX} {F : gF} {V : gV} {Z : va_W} {x sa rf tr tb kl wa rv rk st : Nat} {sh ra la ma : Nat → Nat} {im : Option Nat} {a : aS} (hS : xS X F V x a sa rf tr tb kl wa rv rk st sh ra la ma im) (hA : aOK a) {k : Int} (hrk : (-2147483648 ≤ k ∧ k < 2147483648)) : Met l yX0_status (ws_ yX0_status cX0_status 2 (some FieldType.int)) ({ frames := 6, cells := 64, slots := 480, locals := 136 }) (gP X F V (Z) [.ref x, .int (zI k)]) (gQi X (fun u G U ws => gLe F G ∧ u = opStatus a k ∧ xX X G U x a ∧ Z = ws)) 64 480 (gA X) := by
  refine Met.g (by decide) (Nat.le_of_ble_eq_true rfl) ?_
  intro p e s m below meth c ls hx hb hr hts hown hlocks hml hin hG hl
  have hl : lv_has ls 2 [(0, .ref x), (1, .int (zI k))] := hl
  have hSA := hS
  obtain ⟨hx0, ⟨fs9, hx1, hsh⟩, ⟨gr9, hx2, hgr⟩, hx3, hx4, hW, hx6, hx7⟩ := hSA
  have hSA := hS
  have hK := hA.w
  have hNN := hK.n
  have hMM := hK.m
  obtain ⟨hw0, ⟨fR, hw1, hwR⟩, ⟨fM, hw2, hwM⟩, ⟨fS, hw3, hwS⟩, hR, hMk⟩ := id hW
  have hw0 : V 4 = some (wa, oB 2 [.int (zI (wN (aWd a) : Int)), .int (zI (wM (aWd a) : Int)), .int (zI (wRun (aWd a) : Int)), .int (zI (wNeed (aWd a) : Int)), .int (zI (wMar (aWd a) : Int)), .int (wSeed (aWd a)), .ref rv, .ref rk, .ref st]) := hw0
  have hw1 : V 5 = some (rv, aR (gT X 7) 16 fR) := hw1
  have hw2 : V 6 = some (rk, aR (gT X 8) 16 fM) := hw2
  have hw3 : V 7 = some (st, aI (gT X 5) 16 fS) := hw3
  obtain ⟨ht2, htl, ft, ht3, htf⟩ := hx3
  refine lv_iload_n hx hb dX0_status_0 rfl (lv_at hl 1 rfl) ?_
  rcases (show k = 0 ∨ k = 1 ∨ k = 2 ∨ k = 3 ∨ k = 4 ∨ k = 5 ∨ k = 6 ∨ k = 7 ∨ k = 8 ∨ k = 9 ∨ (k < 0 ∨ 9 < k) by omega) with hk | hk | hk | hk | hk | hk | hk | hk | hk | hk | hk
  · refine g_tin hx hb 0 (off := 55) (tgt := 56) dX0_status_1 hk (by decide) rfl (by decide) ?_
    have hs_1 : 0 = k := by omega
    subst hs_1
    refine lv_aload_n hx hb dX0_status_56 rfl (lv_at hl 0 rfl) ?_
    refine g_get (ci := 0) hx hb hts in_X0 hown hG (hG.vo hx0) rfl 4 (Nat.le_of_ble_eq_true rfl) (hts _ q388) (fun _ h9 => h9) rfl dX0_status_57 ?_
    refine g_get (ci := 2) hx hb hts in_X2 hown hG (hG.vo hw0) rfl 0 (Nat.le_of_ble_eq_true rfl) (hts _ q334) (fun _ h9 => h9) rfl dX0_status_60 ?_
    exact g_iret hx hb hr hlocks hG (by have e9 : opStatus a 0 = zI (wN (aWd a) : Nat) := (by unfold opStatus; rw [if_neg (by decide), if_pos rfl]); rw [e9]; exact ⟨gLe.rfl (V := V), rfl, hS.ex, rfl⟩) ⟨by show _ ≤ 64; omega, by show _ ≤ 480; omega⟩ dX0_status_63
  · refine g_tin hx hb 1 (off := 63) (tgt := 64) dX0_status_1 hk (by decide) rfl (by decide) ?_
    have hs_2 : 1 = k := by omega
    subst hs_2
    refine lv_aload_n hx hb dX0_status_64 rfl (lv_at hl 0 rfl) ?_
    refine g_get (ci := 0) hx hb hts in_X0 hown hG (hG.vo hx0) rfl 4 (Nat.le_of_ble_eq_true rfl) (hts _ q388) (fun _ h9 => h9) rfl dX0_status_65 ?_
    refine g_get (ci := 2) hx hb hts in_X2 hown hG (hG.vo hw0) rfl 1 (Nat.le_of_ble_eq_true rfl) (hts _ q336) (fun _ h9 => h9) rfl dX0_status_68 ?_
    exact g_iret hx hb hr hlocks hG (by have e9 : opStatus a 1 = zI (wM (aWd a) : Nat) := (by unfold opStatus; rw [if_neg (by decide), if_neg (by decide), if_pos rfl]); rw [e9]; exact ⟨gLe.rfl (V := V), rfl, hS.ex, rfl⟩) ⟨by show _ ≤ 64; omega, by show _ ≤ 480; omega⟩ dX0_status_71
  · refine g_tin hx hb 2 (off := 71) (tgt := 72) dX0_status_1 hk (by decide) rfl (by decide) ?_
    have hs_3 : 2 = k := by omega
    subst hs_3
    refine lv_aload_n hx hb dX0_status_72 rfl (lv_at hl 0 rfl) ?_
    refine g_ci (va_runV (As := []) (rest := []) ⟨hx, hb, hml, hown, hts⟩ (metX0_settledMany hS hA) (cwV 0 hts (lw_V q3280 q3282 qs41 q87 q3283) rfl rfl rfl (by decide +kernel) ⟨Nat.le_of_ble_eq_true rfl, Nat.le_of_ble_eq_true rfl⟩) (g_preV hG (g_recv hG (hG.vo hx0) (ci := 0) rfl)) rfl rfl hl.1 rfl (lv_room (Nat.le_of_ble_eq_true rfl)) dX0_status_73 ⟨by show _ ≤ 64; omega, by show _ ≤ 480; omega⟩) hG (fun r_4 F_5 V_6 ws_ H locs hp hG => ?_)
    obtain ⟨rfl, rfl, rfl, rfl⟩ := hp
    have hG : gW X F V (Z) s H locs := hG
    exact g_iret hx hb hr hlocks hG (by have e9 : opStatus a 2 = zI (aSettled (aWd a) : Nat) := (by unfold opStatus; rw [if_neg (by decide), if_neg (by decide), if_neg (by decide), if_pos rfl]); rw [e9]; exact ⟨gLe.rfl (V := V), rfl, hS.ex, rfl⟩) ⟨by show _ ≤ 64; omega, by show _ ≤ 480; omega⟩ dX0_status_76
  · refine g_tin hx hb 3 (off := 76) (tgt := 77) dX0_status_1 hk (by decide) rfl (by decide) ?_
    have hs_7 : 3 = k := by omega
    subst hs_7
    refine lv_aload_n hx hb dX0_status_77 rfl (lv_at hl 0 rfl) ?_
    refine g_ci (va_runV (As := []) (rest := []) ⟨hx, hb, hml, hown, hts⟩ (metX0_openRoots hS hA) (cwV 0 hts (lw_V q3284 q3286 qs42 q87 q3287) rfl rfl rfl (by decide +kernel) ⟨Nat.le_of_ble_eq_true rfl, Nat.le_of_ble_eq_true rfl⟩) (g_preV hG (g_recv hG (hG.vo hx0) (ci := 0) rfl)) rfl rfl hl.1 rfl (lv_room (Nat.le_of_ble_eq_true rfl)) dX0_status_78 ⟨by show _ ≤ 64; omega, by show _ ≤ 480; omega⟩) hG (fun r_8 F_9 V_10 ws_ H locs hp hG => ?_)
    obtain ⟨rfl, rfl, rfl, rfl⟩ := hp
    have hG : gW X F V (Z) s H locs := hG
    exact g_iret hx hb hr hlocks hG (by have e9 : opStatus a 3 = zI (aRoots (aWd a) : Nat) := (by unfold opStatus; rw [if_neg (by decide), if_neg (by decide), if_neg (by decide), if_neg (by decide), if_pos rfl]); rw [e9]; exact ⟨gLe.rfl (V := V), rfl, hS.ex, rfl⟩) ⟨by show _ ≤ 64; omega, by show _ ≤ 480; omega⟩ dX0_status_81
  · refine g_tin hx hb 4 (off := 81) (tgt := 82) dX0_status_1 hk (by decide) rfl (by decide) ?_
    have hs_11 : 4 = k := by omega
    subst hs_11
    refine lv_aload_n hx hb dX0_status_82 rfl (lv_at hl 0 rfl) ?_
    refine g_get (ci := 0) hx hb hts in_X0 hown hG (hG.vo hx0) rfl 4 (Nat.le_of_ble_eq_true rfl) (hts _ q388) (fun _ h9 => h9) rfl dX0_status_83 ?_
    refine g_get (ci := 2) hx hb hts in_X2 hown hG (hG.vo hw0) rfl 2 (Nat.le_of_ble_eq_true rfl) (hts _ q339) (fun _ h9 => h9) rfl dX0_status_86 ?_
    exact g_iret hx hb hr hlocks hG (by have e9 : opStatus a 4 = zI (wRun (aWd a) : Nat) := (by unfold opStatus; rw [if_neg (by decide), if_neg (by decide), if_neg (by decide), if_neg (by decide), if_neg (by decide), if_pos rfl]); rw [e9]; exact ⟨gLe.rfl (V := V), rfl, hS.ex, rfl⟩) ⟨by show _ ≤ 64; omega, by show _ ≤ 480; omega⟩ dX0_status_89
  · refine g_tin hx hb 5 (off := 89) (tgt := 90) dX0_status_1 hk (by decide) rfl (by decide) ?_
    have hs_12 : 5 = k := by omega
    subst hs_12
    refine lv_aload_n hx hb dX0_status_90 rfl (lv_at hl 0 rfl) ?_
    refine g_get (ci := 0) hx hb hts in_X0 hown hG (hG.vo hx0) rfl 4 (Nat.le_of_ble_eq_true rfl) (hts _ q388) (fun _ h9 => h9) rfl dX0_status_91 ?_
    refine g_get (ci := 2) hx hb hts in_X2 hown hG (hG.vo hw0) rfl 3 (Nat.le_of_ble_eq_true rfl) (hts _ q342) (fun _ h9 => h9) rfl dX0_status_94 ?_
    exact g_iret hx hb hr hlocks hG (by have e9 : opStatus a 5 = zI (wNeed (aWd a) : Nat) := (by unfold opStatus; rw [if_neg (by decide), if_neg (by decide), if_neg (by decide), if_neg (by decide), if_neg (by decide), if_neg (by decide), if_pos rfl]); rw [e9]; exact ⟨gLe.rfl (V := V), rfl, hS.ex, rfl⟩) ⟨by show _ ≤ 64; omega, by show _ ≤ 480; omega⟩ dX0_status_97
  · refine g_tin hx hb 6 (off := 97) (tgt := 98) dX0_status_1 hk (by decide) rfl (by decide) ?_
    have hs_13 : 6 = k := by omega
    subst hs_13
    refine lv_aload_n hx hb dX0_status_98 rfl (lv_at hl 0 rfl) ?_
    refine g_get (ci := 0) hx hb hts in_X0 hown hG (hG.vo hx0) rfl 4 (Nat.le_of_ble_eq_true rfl) (hts _ q388) (fun _ h9 => h9) rfl dX0_status_99 ?_
    refine g_get (ci := 2) hx hb hts in_X2 hown hG (hG.vo hw0) rfl 4 (Nat.le_of_ble_eq_true rfl) (hts _ q345) (fun _ h9 => h9) rfl dX0_status_102 ?_
    exact g_iret hx hb hr hlocks hG (by have e9 : opStatus a 6 = zI (wMar (aWd a) : Nat) := (by unfold opStatus; rw [if_neg (by decide), if_neg (by decide), if_neg (by decide), if_neg (by decide), if_neg (by decide), if_neg (by decide), if_neg (by decide), if_pos rfl]); rw [e9]; exact ⟨gLe.rfl (V := V), rfl, hS.ex, rfl⟩) ⟨by show _ ≤ 64; omega, by show _ ≤ 480; omega⟩ dX0_status_105
  · refine g_tin hx hb 7 (off := 105) (tgt := 106) dX0_status_1 hk (by decide) rfl (by decide) ?_
    have hs_14 : 7 = k := by omega
    subst hs_14
    refine lv_aload_n hx hb dX0_status_106 rfl (lv_at hl 0 rfl) ?_
    refine g_get (ci := 0) hx hb hts in_X0 hown hG (hG.vo hx0) rfl 4 (Nat.le_of_ble_eq_true rfl) (hts _ q388) (fun _ h9 => h9) rfl dX0_status_107 ?_
    refine g_get (ci := 2) hx hb hts in_X2 hown hG (hG.vo hw0) rfl 5 (Nat.le_of_ble_eq_true rfl) (hts _ q347) (fun _ h9 => h9) rfl dX0_status_110 ?_
    exact g_iret hx hb hr hlocks hG (by have e9 : opStatus a 7 = wSeed (aWd a) := (by unfold opStatus; rw [if_neg (by decide), if_neg (by decide), if_neg (by decide), if_neg (by decide), if_neg (by decide), if_neg (by decide), if_neg (by decide), if_neg (by decide), if_pos rfl]); rw [e9]; exact ⟨gLe.rfl (V := V), rfl, hS.ex, rfl⟩) ⟨by show _ ≤ 64; omega, by show _ ≤ 480; omega⟩ dX0_status_113
  · refine g_tin hx hb 8 (off := 113) (tgt := 114) dX0_status_1 hk (by decide) rfl (by decide) ?_
    have hs_15 : 8 = k := by omega
    subst hs_15
    refine lv_aload_n hx hb dX0_status_114 rfl (lv_at hl 0 rfl) ?_
    refine g_get (ci := 0) hx hb hts in_X0 hown hG (hG.vo hx0) rfl 4 (Nat.le_of_ble_eq_true rfl) (hts _ q388) (fun _ h9 => h9) rfl dX0_status_115 ?_
    refine g_get (ci := 2) hx hb hts in_X2 hown hG (hG.vo hw0) rfl 0 (Nat.le_of_ble_eq_true rfl) (hts _ q334) (fun _ h9 => h9) rfl dX0_status_118 ?_
    refine g_ne (tgt := 128) hx hb dX0_status_121 (by decide) (by omega) (fun h8 => ?_) (fun h8 => ?_)
    · obtain ⟨n9, hn9⟩ : ∃ z, wN (aWd a) = z + 1 := ⟨wN (aWd a) - 1, by omega⟩
      refine lv_aload_n hx hb dX0_status_128 rfl (lv_at hl 0 rfl) ?_
      refine g_get (ci := 0) hx hb hts in_X0 hown hG (hG.vo hx0) rfl 4 (Nat.le_of_ble_eq_true rfl) (hts _ q388) (fun _ h9 => h9) rfl dX0_status_129 ?_
      refine g_get (ci := 2) hx hb hts in_X2 hown hG (hG.vo hw0) rfl 6 (Nat.le_of_ble_eq_true rfl) (hts _ q349) (fun _ h9 => h9) rfl dX0_status_132 ?_
      refine lv_aload_n hx hb dX0_status_135 rfl (lv_at hl 0 rfl) ?_
      refine g_get (ci := 0) hx hb hts in_X0 hown hG (hG.vo hx0) rfl 4 (Nat.le_of_ble_eq_true rfl) (hts _ q388) (fun _ h9 => h9) rfl dX0_status_136 ?_
      refine g_get (ci := 2) hx hb hts in_X2 hown hG (hG.vo hw0) rfl 0 (Nat.le_of_ble_eq_true rfl) (hts _ q334) (fun _ h9 => h9) rfl dX0_status_139 ?_
      refine lv_iconst (v := zI 1) hx hb dX0_status_142 (by decide +kernel) ?_
      refine g_isub hx hb dX0_status_143 ?_
      refine g_topz (y := (n9 : Int)) (by omega) ?_
      refine g_aald hx hb hG 7 rfl rfl (hG.vo hw1) n9 ⟨rfl, by omega, by omega⟩ (v := .ref (ra n9)) (congrArg va_rf (hwR n9 (by omega))) dX0_status_144 ?_
      have hlnn9 : aLn a ((n9 : Nat) : Int) = ((wTx (aWd a) n9).length : Nat) := rfl
      have h24n9 := (hK.tx (r := n9) (by omega)).1
      have htx := (hR n9 (by omega)).2
      obtain ⟨gt, hgt1, hgt2, hgt3⟩ := htx
      have hgtl := hgt2
      obtain ⟨vc_16, hrvc_16, hgvc_16⟩ := hG.rv (hR n9 (by omega)).1
      refine g_get (ci := 12) hx hb hts in_X14 hown hG hrvc_16 rfl 2 (Nat.le_of_ble_eq_true rfl) (hts _ q1728) (fun _ h9 => h9) rfl dX0_status_145 ?_
      refine g_alen hx hb hG 6 rfl (hG.fz hgt1) dX0_status_148 ?_
      exact g_iret hx hb hr hlocks hG (by have e9 : opStatus a 8 = zI ((wTx (aWd a) n9).length : Nat) := (by unfold opStatus; rw [if_neg (by decide), if_neg (by decide), if_neg (by decide), if_neg (by decide), if_neg (by decide), if_neg (by decide), if_neg (by decide), if_neg (by decide), if_neg (by decide), if_pos rfl, if_neg (by omega), show wN (aWd a) - 1 = n9 by omega]); rw [e9]; exact ⟨gLe.rfl (V := V), rfl, hS.ex, rfl⟩) ⟨by show _ ≤ 64; omega, by show _ ≤ 480; omega⟩ dX0_status_149
    · refine lv_iconst (v := zI 0) hx hb dX0_status_124 (by decide +kernel) ?_
      refine lv_goto (tgt := 149) hx hb dX0_status_125 (by decide) ?_
      exact g_iret hx hb hr hlocks hG (by have e9 : opStatus a 8 = zI 0 := (by unfold opStatus; rw [if_neg (by decide), if_neg (by decide), if_neg (by decide), if_neg (by decide), if_neg (by decide), if_neg (by decide), if_neg (by decide), if_neg (by decide), if_neg (by decide), if_pos rfl, if_pos (by omega)]); rw [e9]; exact ⟨gLe.rfl (V := V), rfl, hS.ex, rfl⟩) ⟨by show _ ≤ 64; omega, by show _ ≤ 480; omega⟩ dX0_status_149
  · refine g_tin hx hb 9 (off := 149) (tgt := 150) dX0_status_1 hk (by decide) rfl (by decide) ?_
    have hs_17 : 9 = k := by omega
    subst hs_17
    refine lv_aload_n hx hb dX0_status_150 rfl (lv_at hl 0 rfl) ?_
    refine g_get (ci := 0) hx hb hts in_X0 hown hG (hG.vo hx0) rfl 2 (Nat.le_of_ble_eq_true rfl) (hts _ q386) (fun _ h9 => h9) rfl dX0_status_151 ?_
    refine g_get (ci := 1) hx hb hts in_X1 hown hG (hG.vo ht2) rfl 1 (Nat.le_of_ble_eq_true rfl) (hts _ q183) (fun _ h9 => h9) rfl dX0_status_154 ?_
    exact g_iret hx hb hr hlocks hG (by have e9 : opStatus a 9 = zI ((aTr a).length : Nat) := (by unfold opStatus; rw [if_neg (by decide), if_neg (by decide), if_neg (by decide), if_neg (by decide), if_neg (by decide), if_neg (by decide), if_neg (by decide), if_neg (by decide), if_neg (by decide), if_neg (by decide), if_pos rfl]); rw [e9]; exact ⟨gLe.rfl (V := V), rfl, hS.ex, rfl⟩) ⟨by show _ ≤ 64; omega, by show _ ≤ 480; omega⟩ dX0_status_157
  · refine g_tout (tgt := 158) hx hb dX0_status_1 (by omega) (by decide) ?_
    refine lv_iload_n hx hb dX0_status_158 rfl (lv_at hl 1 rfl) ?_
    refine g_i2l hx hb dX0_status_159 (by omega) ?_
    refine lv_ldc2 (v := 11) hx hb hown (hts _ q3288) dX0_status_160 ?_
    refine g_topv (y := .long (zL 11)) (congrArg Value.long (by decide +kernel)) ?_
    refine lv_ldc2 (v := 17) hx hb hown (hts _ q3289) dX0_status_163 ?_
    refine g_topv (y := .long (zL 17)) (congrArg Value.long (by decide +kernel)) ?_
    by_cases hk9 : 11 ≤ k ∧ k ≤ 17
    · obtain ⟨j1, rfl⟩ : ∃ z : Nat, k = (z : Int) + 10 := ⟨(k - 10).toNat, by omega⟩
      refine g_ci (va_runS (As := [.long (zL ((j1 : Int) + 10)), .long (zL 11), .long (zL 17)]) (rest := []) ⟨hx, hb, hml, hown, hts⟩ (metX0_in (a9 := ((j1 : Int) + 10)) (b9 := 11) (c9 := 17) (by omega)) (va_cwS 3 hts (lw_S q524 q525 q87 q526) rfl rfl rfl (by decide +kernel) ⟨Nat.le_of_ble_eq_true rfl, Nat.le_of_ble_eq_true rfl⟩) (g_preS hG) rfl rfl hl.1 rfl (lv_room (Nat.le_of_ble_eq_true rfl)) dX0_status_166 ⟨by show _ ≤ 64; omega, by show _ ≤ 480; omega⟩) hG (fun r_18 F_19 V_20 ws_ H locs hp hG => ?_)
      obtain ⟨rfl, rfl, rfl, rfl⟩ := hp
      have hG : gW X F V (Z) s H locs := hG
      refine g_topz (y := 1) (by rw [decide_eq_true (by omega)]; rfl) ?_
      refine g_eq (tgt := 184) hx hb dX0_status_169 (by decide) (by decide) (fun hq => ?_) (fun hq => ?_)
      · exfalso; omega
      · refine lv_aload_n hx hb dX0_status_172 rfl (lv_at hl 0 rfl) ?_
        refine g_get (ci := 0) hx hb hts in_X0 hown hG (hG.vo hx0) rfl 1 (Nat.le_of_ble_eq_true rfl) (hts _ q385) (fun _ h9 => h9) rfl dX0_status_173 ?_
        refine lv_iload_n hx hb dX0_status_176 rfl (lv_at hl 1 rfl) ?_
        refine lv_bipush (v := zI 10) hx hb dX0_status_177 (by decide +kernel) ?_
        refine g_isub hx hb dX0_status_179 ?_
        refine g_topz (y := (j1 : Int)) (by omega) ?_
        refine g_iald hx hb hG (hG.vo hx2) j1 ⟨rfl, by omega, by omega⟩ (v := zI (aRf a j1)) (hgr j1 (by omega)) dX0_status_180 ?_
        refine lv_goto (tgt := 185) hx hb dX0_status_181 (by decide) ?_
        exact g_iret hx hb hr hlocks hG (by have e9 : opStatus a ((j1 : Int) + 10) = zI (aRf a j1) := (by unfold opStatus; rw [if_pos (by omega), show ((j1 : Int) + 10 - 10).toNat = j1 by omega]); rw [e9]; exact ⟨gLe.rfl (V := V), rfl, hS.ex, rfl⟩) ⟨by show _ ≤ 64; omega, by show _ ≤ 480; omega⟩ dX0_status_185
    · refine g_ci (va_runS (As := [.long (zL k), .long (zL 11), .long (zL 17)]) (rest := []) ⟨hx, hb, hml, hown, hts⟩ (metX0_in (a9 := k) (b9 := 11) (c9 := 17) (by omega)) (va_cwS 3 hts (lw_S q524 q525 q87 q526) rfl rfl rfl (by decide +kernel) ⟨Nat.le_of_ble_eq_true rfl, Nat.le_of_ble_eq_true rfl⟩) (g_preS hG) rfl rfl hl.1 rfl (lv_room (Nat.le_of_ble_eq_true rfl)) dX0_status_166 ⟨by show _ ≤ 64; omega, by show _ ≤ 480; omega⟩) hG (fun r_21 F_22 V_23 ws_ H locs hp hG => ?_)
      obtain ⟨rfl, rfl, rfl, rfl⟩ := hp
      have hG : gW X F V (Z) s H locs := hG
      refine g_topz (y := 0) (by rw [decide_eq_false (by omega)]; rfl) ?_
      refine g_eq (tgt := 184) hx hb dX0_status_169 (by decide) (by decide) (fun hq => ?_) (fun hq => ?_)
      · refine lv_iconst (v := zI (-1)) hx hb dX0_status_184 (by decide +kernel) ?_
        exact g_iret hx hb hr hlocks hG (by have e9 : opStatus a k = zI (-1) := (by unfold opStatus; rw [if_neg (by omega), if_neg (by omega), if_neg (by omega), if_neg (by omega), if_neg (by omega), if_neg (by omega), if_neg (by omega), if_neg (by omega), if_neg (by omega), if_neg (by omega), if_neg (by omega)]); rw [e9]; exact ⟨gLe.rfl (V := V), rfl, hS.ex, rfl⟩) ⟨by show _ ≤ 64; omega, by show _ ≤ 480; omega⟩ dX0_status_185
      · exfalso; omega

set_option maxHeartbeats 4000000 in
theorem metX0_image {l : Launch} {X : gX} {F : gF} {V : gV} {Z : va_W} {x sa rf tr tb kl wa rv rk st : Nat} {sh ra la ma : Nat → Nat} {im : Option Nat} {a : aS} (hS : xS X F V x a sa rf tr tb kl wa rv rk st sh ra la ma im) (hA : aOK a)  : Met l yX0_image (ws_ yX0_image cX0_image 1 (some FieldType.int)) ({ frames := 2, cells := 6, slots := 80, locals := 59 }) (gP X F V (Z) [.ref x]) (gQi X (fun u G U ws => gLe F G ∧ u = zI (opImage a).1 ∧ xX X G U x (opImage a).2 ∧ Z = ws)) 6 80 (gA X) := by
  refine Met.g (by decide) (Nat.le_of_ble_eq_true rfl) ?_
  intro p e s m below meth c ls hx hb hr hts hown hlocks hml hin hG hl
  have hl : lv_has ls 1 [(0, .ref x)] := hl
  have hSA := hS
  obtain ⟨hx0, ⟨fs9, hx1, hsh⟩, ⟨gr9, hx2, hgr⟩, hx3, hx4, hW, hx6, hx7⟩ := hSA
  have hSA := hS
  have hK := hA.w
  have hNN := hK.n
  have hMM := hK.m
  obtain ⟨hw0, ⟨fR, hw1, hwR⟩, ⟨fM, hw2, hwM⟩, ⟨fS, hw3, hwS⟩, hR, hMk⟩ := id hW
  have hw0 : V 4 = some (wa, oB 2 [.int (zI (wN (aWd a) : Int)), .int (zI (wM (aWd a) : Int)), .int (zI (wRun (aWd a) : Int)), .int (zI (wNeed (aWd a) : Int)), .int (zI (wMar (aWd a) : Int)), .int (wSeed (aWd a)), .ref rv, .ref rk, .ref st]) := hw0
  have hw1 : V 5 = some (rv, aR (gT X 7) 16 fR) := hw1
  have hw2 : V 6 = some (rk, aR (gT X 8) 16 fM) := hw2
  have hw3 : V 7 = some (st, aI (gT X 5) 16 fS) := hw3
  refine lv_aload_n hx hb dX0_image_0 rfl (lv_at hl 0 rfl) ?_
  refine g_new (ci := 2) hx hb hts in_X2 tyX2 tyX2_ok hown (hts _ q323) (hts _ q324) (hts _ q100) hG rfl (fs := [.int (zI 0), .int (zI 0), .int (zI 0), .int (zI 0), .int (zI 0), .int (zI 0), .null, .null, .null]) rfl ⟨by show _ ≤ 6; omega, by show _ ≤ 80; omega⟩ dX0_image_1 (fun wa8 H (hG : gW X F V ((wa8, oB 2 [.int (zI 0), .int (zI 0), .int (zI 0), .int (zI 0), .int (zI 0), .int (zI 0), .null, .null, .null]) :: Z) s H _) => ?_)
  refine lv_dup hx hb dX0_image_4 rfl ?_
  refine g_cv (va_runI (As := []) (rest := [.ref wa8, .ref x]) ⟨hx, hb, hml, hown, hts⟩ (metX2_init) (cwI 0 hts (lw_meth q327) rfl rfl rfl (hts _ q100) (hts _ q325) (hts _ q326) rfl (by decide +kernel) ⟨Nat.le_of_ble_eq_true rfl, Nat.le_of_ble_eq_true rfl⟩) (g_preS hG) rfl rfl hl.1 rfl (lv_room (Nat.le_of_ble_eq_true rfl)) dX0_image_5 ⟨by show _ ≤ 6; omega, by show _ ≤ 80; omega⟩) hG (fun F_2 V_3 ws_ H locs hp hG => ?_)
  obtain ⟨rfl, rfl, rv8, rk8, st8, rfl⟩ := hp
  have hG : gW X F V ((wa8, oB 2 [.int (zI 0), .int (zI 0), .int (zI 2), .int (zI 6), .int (zI 1), .int (zI 1), .ref rv8, .ref rk8, .ref st8]) :: (rv8, aR (gT X 7) 16 (fun _ => none)) :: (rk8, aR (gT X 8) 16 (fun _ => none)) :: (st8, aI (gT X 5) 16 (fun _ => 0)) :: Z) s H locs := hG
  refine lv_aload_n hx hb dX0_image_8 rfl (lv_at hl 0 rfl) ?_
  refine g_get (ci := 0) hx hb hts in_X0 hown hG (hG.vo hx0) rfl 4 (Nat.le_of_ble_eq_true rfl) (hts _ q388) (fun _ h9 => h9) rfl dX0_image_9 ?_
  refine g_cr (va_runV (As := [.ref wa]) (rest := [.ref x]) ⟨hx, hb, hml, hown, hts⟩ (metX2_take (b := 4) hW hK) (cwV 1 hts (lw_V q3263 q3264 q3265 q100 q3266) rfl rfl rfl (by decide +kernel) ⟨Nat.le_of_ble_eq_true rfl, Nat.le_of_ble_eq_true rfl⟩) (g_preV hG (g_recv hG (hG.at 0 rfl) (ci := 2) rfl)) rfl rfl hl.1 rfl (lv_room (Nat.le_of_ble_eq_true rfl)) dX0_image_12 ⟨by show _ ≤ 6; omega, by show _ ≤ 80; omega⟩) hG (fun r_4 F_5 V_6 ws_ H locs hp hG => ?_)
  obtain ⟨hu, rfl, rfl, f9, g9, h9, hf9, hg9, hh9, rfl⟩ := hp
  obtain rfl : wa8 = r_4 := hu.symm
  have hG : gW X F V ((wa8, oB 2 [.int (zI (wN (aWd a) : Int)), .int (zI (wM (aWd a) : Int)), .int (zI (wRun (aWd a) : Int)), .int (zI (wNeed (aWd a) : Int)), .int (zI (wMar (aWd a) : Int)), .int (wSeed (aWd a)), .ref rv8, .ref rk8, .ref st8]) :: (rv8, aR (gT X 7) 16 f9) :: (rk8, aR (gT X 8) 16 g9) :: (st8, aI (gT X 5) 16 h9) :: Z) s H locs := hG
  have hG := hG.toV 8
  have hx0 : (va_up V 8 (some (wa8, oB 2 [.int (zI (wN (aWd a) : Int)), .int (zI (wM (aWd a) : Int)), .int (zI (wRun (aWd a) : Int)), .int (zI (wNeed (aWd a) : Int)), .int (zI (wMar (aWd a) : Int)), .int (wSeed (aWd a)), .ref rv8, .ref rk8, .ref st8]))) 0 = some (x, oB 0 [.ref sa, .ref rf, .ref tr, .ref kl, .ref wa, va_rf im, .int (zI (aFa a))]) := (vun (by decide)).trans hx0
  have hx2 : (va_up V 8 (some (wa8, oB 2 [.int (zI (wN (aWd a) : Int)), .int (zI (wM (aWd a) : Int)), .int (zI (wRun (aWd a) : Int)), .int (zI (wNeed (aWd a) : Int)), .int (zI (wMar (aWd a) : Int)), .int (wSeed (aWd a)), .ref rv8, .ref rk8, .ref st8]))) 1 = some (rf, aI (gT X 0) 8 gr9) := (vun (by decide)).trans hx2
  have hw0 : (va_up V 8 (some (wa8, oB 2 [.int (zI (wN (aWd a) : Int)), .int (zI (wM (aWd a) : Int)), .int (zI (wRun (aWd a) : Int)), .int (zI (wNeed (aWd a) : Int)), .int (zI (wMar (aWd a) : Int)), .int (wSeed (aWd a)), .ref rv8, .ref rk8, .ref st8]))) 4 = some (wa, oB 2 [.int (zI (wN (aWd a) : Int)), .int (zI (wM (aWd a) : Int)), .int (zI (wRun (aWd a) : Int)), .int (zI (wNeed (aWd a) : Int)), .int (zI (wMar (aWd a) : Int)), .int (wSeed (aWd a)), .ref rv, .ref rk, .ref st]) := (vun (by decide)).trans hw0
  have hw1 : (va_up V 8 (some (wa8, oB 2 [.int (zI (wN (aWd a) : Int)), .int (zI (wM (aWd a) : Int)), .int (zI (wRun (aWd a) : Int)), .int (zI (wNeed (aWd a) : Int)), .int (zI (wMar (aWd a) : Int)), .int (wSeed (aWd a)), .ref rv8, .ref rk8, .ref st8]))) 5 = some (rv, aR (gT X 7) 16 fR) := (vun (by decide)).trans hw1
  have hw2 : (va_up V 8 (some (wa8, oB 2 [.int (zI (wN (aWd a) : Int)), .int (zI (wM (aWd a) : Int)), .int (zI (wRun (aWd a) : Int)), .int (zI (wNeed (aWd a) : Int)), .int (zI (wMar (aWd a) : Int)), .int (wSeed (aWd a)), .ref rv8, .ref rk8, .ref st8]))) 6 = some (rk, aR (gT X 8) 16 fM) := (vun (by decide)).trans hw2
  have hw3 : (va_up V 8 (some (wa8, oB 2 [.int (zI (wN (aWd a) : Int)), .int (zI (wM (aWd a) : Int)), .int (zI (wRun (aWd a) : Int)), .int (zI (wNeed (aWd a) : Int)), .int (zI (wMar (aWd a) : Int)), .int (wSeed (aWd a)), .ref rv8, .ref rk8, .ref st8]))) 7 = some (st, aI (gT X 5) 16 fS) := (vun (by decide)).trans hw3
  have hi0 : (va_up V 8 (some (wa8, oB 2 [.int (zI (wN (aWd a) : Int)), .int (zI (wM (aWd a) : Int)), .int (zI (wRun (aWd a) : Int)), .int (zI (wNeed (aWd a) : Int)), .int (zI (wMar (aWd a) : Int)), .int (wSeed (aWd a)), .ref rv8, .ref rk8, .ref st8]))) 8 = some (wa8, oB 2 [.int (zI (wN (aWd a) : Int)), .int (zI (wM (aWd a) : Int)), .int (zI (wRun (aWd a) : Int)), .int (zI (wNeed (aWd a) : Int)), .int (zI (wMar (aWd a) : Int)), .int (wSeed (aWd a)), .ref rv8, .ref rk8, .ref st8]) := vus
  have hG : gW X F (va_up V 8 (some (wa8, oB 2 [.int (zI (wN (aWd a) : Int)), .int (zI (wM (aWd a) : Int)), .int (zI (wRun (aWd a) : Int)), .int (zI (wNeed (aWd a) : Int)), .int (zI (wMar (aWd a) : Int)), .int (wSeed (aWd a)), .ref rv8, .ref rk8, .ref st8]))) ((rv8, aR (gT X 7) 16 f9) :: (rk8, aR (gT X 8) 16 g9) :: (st8, aI (gT X 5) 16 h9) :: Z) s _ _ := hG
  have hG := hG.toV 9
  have hx0 : (va_up (va_up V 8 (some (wa8, oB 2 [.int (zI (wN (aWd a) : Int)), .int (zI (wM (aWd a) : Int)), .int (zI (wRun (aWd a) : Int)), .int (zI (wNeed (aWd a) : Int)), .int (zI (wMar (aWd a) : Int)), .int (wSeed (aWd a)), .ref rv8, .ref rk8, .ref st8]))) 9 (some (rv8, aR (gT X 7) 16 f9))) 0 = some (x, oB 0 [.ref sa, .ref rf, .ref tr, .ref kl, .ref wa, va_rf im, .int (zI (aFa a))]) := (vun (by decide)).trans hx0
  have hx2 : (va_up (va_up V 8 (some (wa8, oB 2 [.int (zI (wN (aWd a) : Int)), .int (zI (wM (aWd a) : Int)), .int (zI (wRun (aWd a) : Int)), .int (zI (wNeed (aWd a) : Int)), .int (zI (wMar (aWd a) : Int)), .int (wSeed (aWd a)), .ref rv8, .ref rk8, .ref st8]))) 9 (some (rv8, aR (gT X 7) 16 f9))) 1 = some (rf, aI (gT X 0) 8 gr9) := (vun (by decide)).trans hx2
  have hw0 : (va_up (va_up V 8 (some (wa8, oB 2 [.int (zI (wN (aWd a) : Int)), .int (zI (wM (aWd a) : Int)), .int (zI (wRun (aWd a) : Int)), .int (zI (wNeed (aWd a) : Int)), .int (zI (wMar (aWd a) : Int)), .int (wSeed (aWd a)), .ref rv8, .ref rk8, .ref st8]))) 9 (some (rv8, aR (gT X 7) 16 f9))) 4 = some (wa, oB 2 [.int (zI (wN (aWd a) : Int)), .int (zI (wM (aWd a) : Int)), .int (zI (wRun (aWd a) : Int)), .int (zI (wNeed (aWd a) : Int)), .int (zI (wMar (aWd a) : Int)), .int (wSeed (aWd a)), .ref rv, .ref rk, .ref st]) := (vun (by decide)).trans hw0
  have hw1 : (va_up (va_up V 8 (some (wa8, oB 2 [.int (zI (wN (aWd a) : Int)), .int (zI (wM (aWd a) : Int)), .int (zI (wRun (aWd a) : Int)), .int (zI (wNeed (aWd a) : Int)), .int (zI (wMar (aWd a) : Int)), .int (wSeed (aWd a)), .ref rv8, .ref rk8, .ref st8]))) 9 (some (rv8, aR (gT X 7) 16 f9))) 5 = some (rv, aR (gT X 7) 16 fR) := (vun (by decide)).trans hw1
  have hw2 : (va_up (va_up V 8 (some (wa8, oB 2 [.int (zI (wN (aWd a) : Int)), .int (zI (wM (aWd a) : Int)), .int (zI (wRun (aWd a) : Int)), .int (zI (wNeed (aWd a) : Int)), .int (zI (wMar (aWd a) : Int)), .int (wSeed (aWd a)), .ref rv8, .ref rk8, .ref st8]))) 9 (some (rv8, aR (gT X 7) 16 f9))) 6 = some (rk, aR (gT X 8) 16 fM) := (vun (by decide)).trans hw2
  have hw3 : (va_up (va_up V 8 (some (wa8, oB 2 [.int (zI (wN (aWd a) : Int)), .int (zI (wM (aWd a) : Int)), .int (zI (wRun (aWd a) : Int)), .int (zI (wNeed (aWd a) : Int)), .int (zI (wMar (aWd a) : Int)), .int (wSeed (aWd a)), .ref rv8, .ref rk8, .ref st8]))) 9 (some (rv8, aR (gT X 7) 16 f9))) 7 = some (st, aI (gT X 5) 16 fS) := (vun (by decide)).trans hw3
  have hi0 : (va_up (va_up V 8 (some (wa8, oB 2 [.int (zI (wN (aWd a) : Int)), .int (zI (wM (aWd a) : Int)), .int (zI (wRun (aWd a) : Int)), .int (zI (wNeed (aWd a) : Int)), .int (zI (wMar (aWd a) : Int)), .int (wSeed (aWd a)), .ref rv8, .ref rk8, .ref st8]))) 9 (some (rv8, aR (gT X 7) 16 f9))) 8 = some (wa8, oB 2 [.int (zI (wN (aWd a) : Int)), .int (zI (wM (aWd a) : Int)), .int (zI (wRun (aWd a) : Int)), .int (zI (wNeed (aWd a) : Int)), .int (zI (wMar (aWd a) : Int)), .int (wSeed (aWd a)), .ref rv8, .ref rk8, .ref st8]) := (vun (by decide)).trans hi0
  have hi1 : (va_up (va_up V 8 (some (wa8, oB 2 [.int (zI (wN (aWd a) : Int)), .int (zI (wM (aWd a) : Int)), .int (zI (wRun (aWd a) : Int)), .int (zI (wNeed (aWd a) : Int)), .int (zI (wMar (aWd a) : Int)), .int (wSeed (aWd a)), .ref rv8, .ref rk8, .ref st8]))) 9 (some (rv8, aR (gT X 7) 16 f9))) 9 = some (rv8, aR (gT X 7) 16 f9) := vus
  have hG : gW X F (va_up (va_up V 8 (some (wa8, oB 2 [.int (zI (wN (aWd a) : Int)), .int (zI (wM (aWd a) : Int)), .int (zI (wRun (aWd a) : Int)), .int (zI (wNeed (aWd a) : Int)), .int (zI (wMar (aWd a) : Int)), .int (wSeed (aWd a)), .ref rv8, .ref rk8, .ref st8]))) 9 (some (rv8, aR (gT X 7) 16 f9))) ((rk8, aR (gT X 8) 16 g9) :: (st8, aI (gT X 5) 16 h9) :: Z) s _ _ := hG
  have hG := hG.toV 10
  have hx0 : (va_up (va_up (va_up V 8 (some (wa8, oB 2 [.int (zI (wN (aWd a) : Int)), .int (zI (wM (aWd a) : Int)), .int (zI (wRun (aWd a) : Int)), .int (zI (wNeed (aWd a) : Int)), .int (zI (wMar (aWd a) : Int)), .int (wSeed (aWd a)), .ref rv8, .ref rk8, .ref st8]))) 9 (some (rv8, aR (gT X 7) 16 f9))) 10 (some (rk8, aR (gT X 8) 16 g9))) 0 = some (x, oB 0 [.ref sa, .ref rf, .ref tr, .ref kl, .ref wa, va_rf im, .int (zI (aFa a))]) := (vun (by decide)).trans hx0
  have hx2 : (va_up (va_up (va_up V 8 (some (wa8, oB 2 [.int (zI (wN (aWd a) : Int)), .int (zI (wM (aWd a) : Int)), .int (zI (wRun (aWd a) : Int)), .int (zI (wNeed (aWd a) : Int)), .int (zI (wMar (aWd a) : Int)), .int (wSeed (aWd a)), .ref rv8, .ref rk8, .ref st8]))) 9 (some (rv8, aR (gT X 7) 16 f9))) 10 (some (rk8, aR (gT X 8) 16 g9))) 1 = some (rf, aI (gT X 0) 8 gr9) := (vun (by decide)).trans hx2
  have hw0 : (va_up (va_up (va_up V 8 (some (wa8, oB 2 [.int (zI (wN (aWd a) : Int)), .int (zI (wM (aWd a) : Int)), .int (zI (wRun (aWd a) : Int)), .int (zI (wNeed (aWd a) : Int)), .int (zI (wMar (aWd a) : Int)), .int (wSeed (aWd a)), .ref rv8, .ref rk8, .ref st8]))) 9 (some (rv8, aR (gT X 7) 16 f9))) 10 (some (rk8, aR (gT X 8) 16 g9))) 4 = some (wa, oB 2 [.int (zI (wN (aWd a) : Int)), .int (zI (wM (aWd a) : Int)), .int (zI (wRun (aWd a) : Int)), .int (zI (wNeed (aWd a) : Int)), .int (zI (wMar (aWd a) : Int)), .int (wSeed (aWd a)), .ref rv, .ref rk, .ref st]) := (vun (by decide)).trans hw0
  have hw1 : (va_up (va_up (va_up V 8 (some (wa8, oB 2 [.int (zI (wN (aWd a) : Int)), .int (zI (wM (aWd a) : Int)), .int (zI (wRun (aWd a) : Int)), .int (zI (wNeed (aWd a) : Int)), .int (zI (wMar (aWd a) : Int)), .int (wSeed (aWd a)), .ref rv8, .ref rk8, .ref st8]))) 9 (some (rv8, aR (gT X 7) 16 f9))) 10 (some (rk8, aR (gT X 8) 16 g9))) 5 = some (rv, aR (gT X 7) 16 fR) := (vun (by decide)).trans hw1
  have hw2 : (va_up (va_up (va_up V 8 (some (wa8, oB 2 [.int (zI (wN (aWd a) : Int)), .int (zI (wM (aWd a) : Int)), .int (zI (wRun (aWd a) : Int)), .int (zI (wNeed (aWd a) : Int)), .int (zI (wMar (aWd a) : Int)), .int (wSeed (aWd a)), .ref rv8, .ref rk8, .ref st8]))) 9 (some (rv8, aR (gT X 7) 16 f9))) 10 (some (rk8, aR (gT X 8) 16 g9))) 6 = some (rk, aR (gT X 8) 16 fM) := (vun (by decide)).trans hw2
  have hw3 : (va_up (va_up (va_up V 8 (some (wa8, oB 2 [.int (zI (wN (aWd a) : Int)), .int (zI (wM (aWd a) : Int)), .int (zI (wRun (aWd a) : Int)), .int (zI (wNeed (aWd a) : Int)), .int (zI (wMar (aWd a) : Int)), .int (wSeed (aWd a)), .ref rv8, .ref rk8, .ref st8]))) 9 (some (rv8, aR (gT X 7) 16 f9))) 10 (some (rk8, aR (gT X 8) 16 g9))) 7 = some (st, aI (gT X 5) 16 fS) := (vun (by decide)).trans hw3
  have hi0 : (va_up (va_up (va_up V 8 (some (wa8, oB 2 [.int (zI (wN (aWd a) : Int)), .int (zI (wM (aWd a) : Int)), .int (zI (wRun (aWd a) : Int)), .int (zI (wNeed (aWd a) : Int)), .int (zI (wMar (aWd a) : Int)), .int (wSeed (aWd a)), .ref rv8, .ref rk8, .ref st8]))) 9 (some (rv8, aR (gT X 7) 16 f9))) 10 (some (rk8, aR (gT X 8) 16 g9))) 8 = some (wa8, oB 2 [.int (zI (wN (aWd a) : Int)), .int (zI (wM (aWd a) : Int)), .int (zI (wRun (aWd a) : Int)), .int (zI (wNeed (aWd a) : Int)), .int (zI (wMar (aWd a) : Int)), .int (wSeed (aWd a)), .ref rv8, .ref rk8, .ref st8]) := (vun (by decide)).trans hi0
  have hi1 : (va_up (va_up (va_up V 8 (some (wa8, oB 2 [.int (zI (wN (aWd a) : Int)), .int (zI (wM (aWd a) : Int)), .int (zI (wRun (aWd a) : Int)), .int (zI (wNeed (aWd a) : Int)), .int (zI (wMar (aWd a) : Int)), .int (wSeed (aWd a)), .ref rv8, .ref rk8, .ref st8]))) 9 (some (rv8, aR (gT X 7) 16 f9))) 10 (some (rk8, aR (gT X 8) 16 g9))) 9 = some (rv8, aR (gT X 7) 16 f9) := (vun (by decide)).trans hi1
  have hi2 : (va_up (va_up (va_up V 8 (some (wa8, oB 2 [.int (zI (wN (aWd a) : Int)), .int (zI (wM (aWd a) : Int)), .int (zI (wRun (aWd a) : Int)), .int (zI (wNeed (aWd a) : Int)), .int (zI (wMar (aWd a) : Int)), .int (wSeed (aWd a)), .ref rv8, .ref rk8, .ref st8]))) 9 (some (rv8, aR (gT X 7) 16 f9))) 10 (some (rk8, aR (gT X 8) 16 g9))) 10 = some (rk8, aR (gT X 8) 16 g9) := vus
  have hG : gW X F (va_up (va_up (va_up V 8 (some (wa8, oB 2 [.int (zI (wN (aWd a) : Int)), .int (zI (wM (aWd a) : Int)), .int (zI (wRun (aWd a) : Int)), .int (zI (wNeed (aWd a) : Int)), .int (zI (wMar (aWd a) : Int)), .int (wSeed (aWd a)), .ref rv8, .ref rk8, .ref st8]))) 9 (some (rv8, aR (gT X 7) 16 f9))) 10 (some (rk8, aR (gT X 8) 16 g9))) ((st8, aI (gT X 5) 16 h9) :: Z) s _ _ := hG
  have hG := hG.toV 11
  have hx0 : (va_up (va_up (va_up (va_up V 8 (some (wa8, oB 2 [.int (zI (wN (aWd a) : Int)), .int (zI (wM (aWd a) : Int)), .int (zI (wRun (aWd a) : Int)), .int (zI (wNeed (aWd a) : Int)), .int (zI (wMar (aWd a) : Int)), .int (wSeed (aWd a)), .ref rv8, .ref rk8, .ref st8]))) 9 (some (rv8, aR (gT X 7) 16 f9))) 10 (some (rk8, aR (gT X 8) 16 g9))) 11 (some (st8, aI (gT X 5) 16 h9))) 0 = some (x, oB 0 [.ref sa, .ref rf, .ref tr, .ref kl, .ref wa, va_rf im, .int (zI (aFa a))]) := (vun (by decide)).trans hx0
  have hx2 : (va_up (va_up (va_up (va_up V 8 (some (wa8, oB 2 [.int (zI (wN (aWd a) : Int)), .int (zI (wM (aWd a) : Int)), .int (zI (wRun (aWd a) : Int)), .int (zI (wNeed (aWd a) : Int)), .int (zI (wMar (aWd a) : Int)), .int (wSeed (aWd a)), .ref rv8, .ref rk8, .ref st8]))) 9 (some (rv8, aR (gT X 7) 16 f9))) 10 (some (rk8, aR (gT X 8) 16 g9))) 11 (some (st8, aI (gT X 5) 16 h9))) 1 = some (rf, aI (gT X 0) 8 gr9) := (vun (by decide)).trans hx2
  have hw0 : (va_up (va_up (va_up (va_up V 8 (some (wa8, oB 2 [.int (zI (wN (aWd a) : Int)), .int (zI (wM (aWd a) : Int)), .int (zI (wRun (aWd a) : Int)), .int (zI (wNeed (aWd a) : Int)), .int (zI (wMar (aWd a) : Int)), .int (wSeed (aWd a)), .ref rv8, .ref rk8, .ref st8]))) 9 (some (rv8, aR (gT X 7) 16 f9))) 10 (some (rk8, aR (gT X 8) 16 g9))) 11 (some (st8, aI (gT X 5) 16 h9))) 4 = some (wa, oB 2 [.int (zI (wN (aWd a) : Int)), .int (zI (wM (aWd a) : Int)), .int (zI (wRun (aWd a) : Int)), .int (zI (wNeed (aWd a) : Int)), .int (zI (wMar (aWd a) : Int)), .int (wSeed (aWd a)), .ref rv, .ref rk, .ref st]) := (vun (by decide)).trans hw0
  have hw1 : (va_up (va_up (va_up (va_up V 8 (some (wa8, oB 2 [.int (zI (wN (aWd a) : Int)), .int (zI (wM (aWd a) : Int)), .int (zI (wRun (aWd a) : Int)), .int (zI (wNeed (aWd a) : Int)), .int (zI (wMar (aWd a) : Int)), .int (wSeed (aWd a)), .ref rv8, .ref rk8, .ref st8]))) 9 (some (rv8, aR (gT X 7) 16 f9))) 10 (some (rk8, aR (gT X 8) 16 g9))) 11 (some (st8, aI (gT X 5) 16 h9))) 5 = some (rv, aR (gT X 7) 16 fR) := (vun (by decide)).trans hw1
  have hw2 : (va_up (va_up (va_up (va_up V 8 (some (wa8, oB 2 [.int (zI (wN (aWd a) : Int)), .int (zI (wM (aWd a) : Int)), .int (zI (wRun (aWd a) : Int)), .int (zI (wNeed (aWd a) : Int)), .int (zI (wMar (aWd a) : Int)), .int (wSeed (aWd a)), .ref rv8, .ref rk8, .ref st8]))) 9 (some (rv8, aR (gT X 7) 16 f9))) 10 (some (rk8, aR (gT X 8) 16 g9))) 11 (some (st8, aI (gT X 5) 16 h9))) 6 = some (rk, aR (gT X 8) 16 fM) := (vun (by decide)).trans hw2
  have hw3 : (va_up (va_up (va_up (va_up V 8 (some (wa8, oB 2 [.int (zI (wN (aWd a) : Int)), .int (zI (wM (aWd a) : Int)), .int (zI (wRun (aWd a) : Int)), .int (zI (wNeed (aWd a) : Int)), .int (zI (wMar (aWd a) : Int)), .int (wSeed (aWd a)), .ref rv8, .ref rk8, .ref st8]))) 9 (some (rv8, aR (gT X 7) 16 f9))) 10 (some (rk8, aR (gT X 8) 16 g9))) 11 (some (st8, aI (gT X 5) 16 h9))) 7 = some (st, aI (gT X 5) 16 fS) := (vun (by decide)).trans hw3
  have hi0 : (va_up (va_up (va_up (va_up V 8 (some (wa8, oB 2 [.int (zI (wN (aWd a) : Int)), .int (zI (wM (aWd a) : Int)), .int (zI (wRun (aWd a) : Int)), .int (zI (wNeed (aWd a) : Int)), .int (zI (wMar (aWd a) : Int)), .int (wSeed (aWd a)), .ref rv8, .ref rk8, .ref st8]))) 9 (some (rv8, aR (gT X 7) 16 f9))) 10 (some (rk8, aR (gT X 8) 16 g9))) 11 (some (st8, aI (gT X 5) 16 h9))) 8 = some (wa8, oB 2 [.int (zI (wN (aWd a) : Int)), .int (zI (wM (aWd a) : Int)), .int (zI (wRun (aWd a) : Int)), .int (zI (wNeed (aWd a) : Int)), .int (zI (wMar (aWd a) : Int)), .int (wSeed (aWd a)), .ref rv8, .ref rk8, .ref st8]) := (vun (by decide)).trans hi0
  have hi1 : (va_up (va_up (va_up (va_up V 8 (some (wa8, oB 2 [.int (zI (wN (aWd a) : Int)), .int (zI (wM (aWd a) : Int)), .int (zI (wRun (aWd a) : Int)), .int (zI (wNeed (aWd a) : Int)), .int (zI (wMar (aWd a) : Int)), .int (wSeed (aWd a)), .ref rv8, .ref rk8, .ref st8]))) 9 (some (rv8, aR (gT X 7) 16 f9))) 10 (some (rk8, aR (gT X 8) 16 g9))) 11 (some (st8, aI (gT X 5) 16 h9))) 9 = some (rv8, aR (gT X 7) 16 f9) := (vun (by decide)).trans hi1
  have hi2 : (va_up (va_up (va_up (va_up V 8 (some (wa8, oB 2 [.int (zI (wN (aWd a) : Int)), .int (zI (wM (aWd a) : Int)), .int (zI (wRun (aWd a) : Int)), .int (zI (wNeed (aWd a) : Int)), .int (zI (wMar (aWd a) : Int)), .int (wSeed (aWd a)), .ref rv8, .ref rk8, .ref st8]))) 9 (some (rv8, aR (gT X 7) 16 f9))) 10 (some (rk8, aR (gT X 8) 16 g9))) 11 (some (st8, aI (gT X 5) 16 h9))) 10 = some (rk8, aR (gT X 8) 16 g9) := (vun (by decide)).trans hi2
  have hi3 : (va_up (va_up (va_up (va_up V 8 (some (wa8, oB 2 [.int (zI (wN (aWd a) : Int)), .int (zI (wM (aWd a) : Int)), .int (zI (wRun (aWd a) : Int)), .int (zI (wNeed (aWd a) : Int)), .int (zI (wMar (aWd a) : Int)), .int (wSeed (aWd a)), .ref rv8, .ref rk8, .ref st8]))) 9 (some (rv8, aR (gT X 7) 16 f9))) 10 (some (rk8, aR (gT X 8) 16 g9))) 11 (some (st8, aI (gT X 5) 16 h9))) 11 = some (st8, aI (gT X 5) 16 h9) := vus
  have hG : gW X F (va_up (va_up (va_up (va_up V 8 (some (wa8, oB 2 [.int (zI (wN (aWd a) : Int)), .int (zI (wM (aWd a) : Int)), .int (zI (wRun (aWd a) : Int)), .int (zI (wNeed (aWd a) : Int)), .int (zI (wMar (aWd a) : Int)), .int (wSeed (aWd a)), .ref rv8, .ref rk8, .ref st8]))) 9 (some (rv8, aR (gT X 7) 16 f9))) 10 (some (rk8, aR (gT X 8) 16 g9))) 11 (some (st8, aI (gT X 5) 16 h9))) (Z) s _ _ := hG
  refine g_putV (ci := 0) hx hb hts in_X0 tyX0 tyX0_ok nmX0 hown hG hx0 rfl 5 (Nat.le_of_ble_eq_true rfl) (hts _ q389) (fun _ h9 => h9) rfl (tyX0_ok 5 (Nat.le_of_ble_eq_true rfl)) rfl rfl (Nat.le_of_ble_eq_true rfl) dX0_image_15 (fun H locs (hG : gW X F (va_up (va_up (va_up (va_up (va_up V 8 (some (wa8, oB 2 [.int (zI (wN (aWd a) : Int)), .int (zI (wM (aWd a) : Int)), .int (zI (wRun (aWd a) : Int)), .int (zI (wNeed (aWd a) : Int)), .int (zI (wMar (aWd a) : Int)), .int (wSeed (aWd a)), .ref rv8, .ref rk8, .ref st8]))) 9 (some (rv8, aR (gT X 7) 16 f9))) 10 (some (rk8, aR (gT X 8) 16 g9))) 11 (some (st8, aI (gT X 5) 16 h9))) 0 (some (x, oB 0 [.ref sa, .ref rf, .ref tr, .ref kl, .ref wa, .ref wa8, .int (zI (aFa a))]))) (Z) s H locs) => ?_)
  have hx0 : (va_up (va_up (va_up (va_up (va_up V 8 (some (wa8, oB 2 [.int (zI (wN (aWd a) : Int)), .int (zI (wM (aWd a) : Int)), .int (zI (wRun (aWd a) : Int)), .int (zI (wNeed (aWd a) : Int)), .int (zI (wMar (aWd a) : Int)), .int (wSeed (aWd a)), .ref rv8, .ref rk8, .ref st8]))) 9 (some (rv8, aR (gT X 7) 16 f9))) 10 (some (rk8, aR (gT X 8) 16 g9))) 11 (some (st8, aI (gT X 5) 16 h9))) 0 (some (x, oB 0 [.ref sa, .ref rf, .ref tr, .ref kl, .ref wa, .ref wa8, .int (zI (aFa a))]))) 0 = some (x, oB 0 [.ref sa, .ref rf, .ref tr, .ref kl, .ref wa, .ref wa8, .int (zI (aFa a))]) := vus
  have hx2 : (va_up (va_up (va_up (va_up (va_up V 8 (some (wa8, oB 2 [.int (zI (wN (aWd a) : Int)), .int (zI (wM (aWd a) : Int)), .int (zI (wRun (aWd a) : Int)), .int (zI (wNeed (aWd a) : Int)), .int (zI (wMar (aWd a) : Int)), .int (wSeed (aWd a)), .ref rv8, .ref rk8, .ref st8]))) 9 (some (rv8, aR (gT X 7) 16 f9))) 10 (some (rk8, aR (gT X 8) 16 g9))) 11 (some (st8, aI (gT X 5) 16 h9))) 0 (some (x, oB 0 [.ref sa, .ref rf, .ref tr, .ref kl, .ref wa, .ref wa8, .int (zI (aFa a))]))) 1 = some (rf, aI (gT X 0) 8 gr9) := (vun (by decide)).trans hx2
  have hw0 : (va_up (va_up (va_up (va_up (va_up V 8 (some (wa8, oB 2 [.int (zI (wN (aWd a) : Int)), .int (zI (wM (aWd a) : Int)), .int (zI (wRun (aWd a) : Int)), .int (zI (wNeed (aWd a) : Int)), .int (zI (wMar (aWd a) : Int)), .int (wSeed (aWd a)), .ref rv8, .ref rk8, .ref st8]))) 9 (some (rv8, aR (gT X 7) 16 f9))) 10 (some (rk8, aR (gT X 8) 16 g9))) 11 (some (st8, aI (gT X 5) 16 h9))) 0 (some (x, oB 0 [.ref sa, .ref rf, .ref tr, .ref kl, .ref wa, .ref wa8, .int (zI (aFa a))]))) 4 = some (wa, oB 2 [.int (zI (wN (aWd a) : Int)), .int (zI (wM (aWd a) : Int)), .int (zI (wRun (aWd a) : Int)), .int (zI (wNeed (aWd a) : Int)), .int (zI (wMar (aWd a) : Int)), .int (wSeed (aWd a)), .ref rv, .ref rk, .ref st]) := (vun (by decide)).trans hw0
  have hw1 : (va_up (va_up (va_up (va_up (va_up V 8 (some (wa8, oB 2 [.int (zI (wN (aWd a) : Int)), .int (zI (wM (aWd a) : Int)), .int (zI (wRun (aWd a) : Int)), .int (zI (wNeed (aWd a) : Int)), .int (zI (wMar (aWd a) : Int)), .int (wSeed (aWd a)), .ref rv8, .ref rk8, .ref st8]))) 9 (some (rv8, aR (gT X 7) 16 f9))) 10 (some (rk8, aR (gT X 8) 16 g9))) 11 (some (st8, aI (gT X 5) 16 h9))) 0 (some (x, oB 0 [.ref sa, .ref rf, .ref tr, .ref kl, .ref wa, .ref wa8, .int (zI (aFa a))]))) 5 = some (rv, aR (gT X 7) 16 fR) := (vun (by decide)).trans hw1
  have hw2 : (va_up (va_up (va_up (va_up (va_up V 8 (some (wa8, oB 2 [.int (zI (wN (aWd a) : Int)), .int (zI (wM (aWd a) : Int)), .int (zI (wRun (aWd a) : Int)), .int (zI (wNeed (aWd a) : Int)), .int (zI (wMar (aWd a) : Int)), .int (wSeed (aWd a)), .ref rv8, .ref rk8, .ref st8]))) 9 (some (rv8, aR (gT X 7) 16 f9))) 10 (some (rk8, aR (gT X 8) 16 g9))) 11 (some (st8, aI (gT X 5) 16 h9))) 0 (some (x, oB 0 [.ref sa, .ref rf, .ref tr, .ref kl, .ref wa, .ref wa8, .int (zI (aFa a))]))) 6 = some (rk, aR (gT X 8) 16 fM) := (vun (by decide)).trans hw2
  have hw3 : (va_up (va_up (va_up (va_up (va_up V 8 (some (wa8, oB 2 [.int (zI (wN (aWd a) : Int)), .int (zI (wM (aWd a) : Int)), .int (zI (wRun (aWd a) : Int)), .int (zI (wNeed (aWd a) : Int)), .int (zI (wMar (aWd a) : Int)), .int (wSeed (aWd a)), .ref rv8, .ref rk8, .ref st8]))) 9 (some (rv8, aR (gT X 7) 16 f9))) 10 (some (rk8, aR (gT X 8) 16 g9))) 11 (some (st8, aI (gT X 5) 16 h9))) 0 (some (x, oB 0 [.ref sa, .ref rf, .ref tr, .ref kl, .ref wa, .ref wa8, .int (zI (aFa a))]))) 7 = some (st, aI (gT X 5) 16 fS) := (vun (by decide)).trans hw3
  have hi0 : (va_up (va_up (va_up (va_up (va_up V 8 (some (wa8, oB 2 [.int (zI (wN (aWd a) : Int)), .int (zI (wM (aWd a) : Int)), .int (zI (wRun (aWd a) : Int)), .int (zI (wNeed (aWd a) : Int)), .int (zI (wMar (aWd a) : Int)), .int (wSeed (aWd a)), .ref rv8, .ref rk8, .ref st8]))) 9 (some (rv8, aR (gT X 7) 16 f9))) 10 (some (rk8, aR (gT X 8) 16 g9))) 11 (some (st8, aI (gT X 5) 16 h9))) 0 (some (x, oB 0 [.ref sa, .ref rf, .ref tr, .ref kl, .ref wa, .ref wa8, .int (zI (aFa a))]))) 8 = some (wa8, oB 2 [.int (zI (wN (aWd a) : Int)), .int (zI (wM (aWd a) : Int)), .int (zI (wRun (aWd a) : Int)), .int (zI (wNeed (aWd a) : Int)), .int (zI (wMar (aWd a) : Int)), .int (wSeed (aWd a)), .ref rv8, .ref rk8, .ref st8]) := (vun (by decide)).trans hi0
  have hi1 : (va_up (va_up (va_up (va_up (va_up V 8 (some (wa8, oB 2 [.int (zI (wN (aWd a) : Int)), .int (zI (wM (aWd a) : Int)), .int (zI (wRun (aWd a) : Int)), .int (zI (wNeed (aWd a) : Int)), .int (zI (wMar (aWd a) : Int)), .int (wSeed (aWd a)), .ref rv8, .ref rk8, .ref st8]))) 9 (some (rv8, aR (gT X 7) 16 f9))) 10 (some (rk8, aR (gT X 8) 16 g9))) 11 (some (st8, aI (gT X 5) 16 h9))) 0 (some (x, oB 0 [.ref sa, .ref rf, .ref tr, .ref kl, .ref wa, .ref wa8, .int (zI (aFa a))]))) 9 = some (rv8, aR (gT X 7) 16 f9) := (vun (by decide)).trans hi1
  have hi2 : (va_up (va_up (va_up (va_up (va_up V 8 (some (wa8, oB 2 [.int (zI (wN (aWd a) : Int)), .int (zI (wM (aWd a) : Int)), .int (zI (wRun (aWd a) : Int)), .int (zI (wNeed (aWd a) : Int)), .int (zI (wMar (aWd a) : Int)), .int (wSeed (aWd a)), .ref rv8, .ref rk8, .ref st8]))) 9 (some (rv8, aR (gT X 7) 16 f9))) 10 (some (rk8, aR (gT X 8) 16 g9))) 11 (some (st8, aI (gT X 5) 16 h9))) 0 (some (x, oB 0 [.ref sa, .ref rf, .ref tr, .ref kl, .ref wa, .ref wa8, .int (zI (aFa a))]))) 10 = some (rk8, aR (gT X 8) 16 g9) := (vun (by decide)).trans hi2
  have hi3 : (va_up (va_up (va_up (va_up (va_up V 8 (some (wa8, oB 2 [.int (zI (wN (aWd a) : Int)), .int (zI (wM (aWd a) : Int)), .int (zI (wRun (aWd a) : Int)), .int (zI (wNeed (aWd a) : Int)), .int (zI (wMar (aWd a) : Int)), .int (wSeed (aWd a)), .ref rv8, .ref rk8, .ref st8]))) 9 (some (rv8, aR (gT X 7) 16 f9))) 10 (some (rk8, aR (gT X 8) 16 g9))) 11 (some (st8, aI (gT X 5) 16 h9))) 0 (some (x, oB 0 [.ref sa, .ref rf, .ref tr, .ref kl, .ref wa, .ref wa8, .int (zI (aFa a))]))) 11 = some (st8, aI (gT X 5) 16 h9) := (vun (by decide)).trans hi3
  refine lv_aload_n hx hb dX0_image_18 rfl (lv_at hl 0 rfl) ?_
  refine g_get (ci := 0) hx hb hts in_X0 hown hG (hG.vo hx0) rfl 4 (Nat.le_of_ble_eq_true rfl) (hts _ q388) (fun _ h9 => h9) rfl dX0_image_19 ?_
  refine g_get (ci := 2) hx hb hts in_X2 hown hG (hG.vo hw0) rfl 1 (Nat.le_of_ble_eq_true rfl) (hts _ q336) (fun _ h9 => h9) rfl dX0_image_22 ?_
  have hWI : xWd X F (va_up (va_up (va_up (va_up (va_up V 8 (some (wa8, oB 2 [.int (zI (wN (aWd a) : Int)), .int (zI (wM (aWd a) : Int)), .int (zI (wRun (aWd a) : Int)), .int (zI (wNeed (aWd a) : Int)), .int (zI (wMar (aWd a) : Int)), .int (wSeed (aWd a)), .ref rv8, .ref rk8, .ref st8]))) 9 (some (rv8, aR (gT X 7) 16 f9))) 10 (some (rk8, aR (gT X 8) 16 g9))) 11 (some (st8, aI (gT X 5) 16 h9))) 0 (some (x, oB 0 [.ref sa, .ref rf, .ref tr, .ref kl, .ref wa, .ref wa8, .int (zI (aFa a))]))) 8 (aWd a) wa8 rv8 rk8 st8 ra la ma := ⟨hi0, ⟨f9, hi1, hf9⟩, ⟨g9, hi2, hg9⟩, ⟨h9, hi3, hh9⟩, hR, hMk⟩
  exact g_iret hx hb hr hlocks hG (⟨gLe.rfl (V := V), rfl, (hS.setI (fun r9 h8 h9 => by repeat (first | rfl | refine (va_up_ne _ _ (by omega)).trans ?_)) hx0 hWI).ex, rfl⟩) ⟨by show _ ≤ 6; omega, by show _ ≤ 80; omega⟩ dX0_image_25

set_option maxHeartbeats 4000000 in
theorem metX0_drift {l : Launch} {X : gX} {F : gF} {V : gV} {Z : va_W} {x sa rf tr tb kl wa rv rk st : Nat} {sh ra la ma : Nat → Nat} {im : Option Nat} {a : aS} (hS : xS X F V x a sa rf tr tb kl wa rv rk st sh ra la ma im) (hA : aOK a) (hst : l.stackTraces = false) {k : Int} (hrk : (-2147483648 ≤ k ∧ k < 2147483648)) : vx_Met l yX0_drift (wsW_ yX0_drift cX0_drift 3 (some FieldType.int) [(0, 87, 88, 21)]) ({ frames := 7, cells := 640, slots := 2700, locals := 155 }) (gP X F V (Z) [.ref x, .int (zI k)]) (gQi X (fun u G U ws => gLe F G ∧ u = zI (opDrift a k).1 ∧ xX X G U x (opDrift a k).2 ∧ Z = ws)) (gXc X (fun _ _ _ _ _ => False)) 640 2700 (gA X) := by
  refine vx_Met.gH (by decide) (Nat.le_of_ble_eq_true rfl) ?_
  intro p e s m below meth c ls hx hb hr hts hown hlocks hml hin htab hG hl
  have hl : lv_has ls 3 [(0, .ref x), (1, .int (zI k))] := hl
  have hSA := hS
  obtain ⟨hx0, ⟨fs9, hx1, hsh⟩, ⟨gr9, hx2, hgr⟩, hx3, hx4, hW, hx6, hx7⟩ := hSA
  have hSA := hS
  have hK := hA.w
  have hNN := hK.n
  have hMM := hK.m
  obtain ⟨hw0, ⟨fR, hw1, hwR⟩, ⟨fM, hw2, hwM⟩, ⟨fS, hw3, hwS⟩, hR, hMk⟩ := id hW
  have hw0 : V 4 = some (wa, oB 2 [.int (zI (wN (aWd a) : Int)), .int (zI (wM (aWd a) : Int)), .int (zI (wRun (aWd a) : Int)), .int (zI (wNeed (aWd a) : Int)), .int (zI (wMar (aWd a) : Int)), .int (wSeed (aWd a)), .ref rv, .ref rk, .ref st]) := hw0
  have hw1 : V 5 = some (rv, aR (gT X 7) 16 fR) := hw1
  have hw2 : V 6 = some (rk, aR (gT X 8) 16 fM) := hw2
  have hw3 : V 7 = some (st, aI (gT X 5) 16 fS) := hw3
  refine lv_aload_n hx hb dX0_drift_0 rfl (lv_at hl 0 rfl) ?_
  refine g_get (ci := 0) hx hb hts in_X0 hown hG (hG.vo hx0) rfl 4 (Nat.le_of_ble_eq_true rfl) (hts _ q388) (fun _ h9 => h9) rfl dX0_drift_1 ?_
  refine g_get (ci := 2) hx hb hts in_X2 hown hG (hG.vo hw0) rfl 0 (Nat.le_of_ble_eq_true rfl) (hts _ q334) (fun _ h9 => h9) rfl dX0_drift_4 ?_
  refine g_le (tgt := 14) hx hb dX0_drift_7 (by decide) (by omega) (fun h4 => ?_) (fun h4 => ?_)
  · refine lv_iconst (v := zI 0) hx hb dX0_drift_14 (by decide +kernel) ?_
    refine lv_bipush (v := zI (-5)) hx hb dX0_drift_15 (by decide +kernel) ?_
    refine g_xv (vx_runS (As := [.int (zI 0), .int (zI (-5))]) (rest := []) ⟨hx, hb, hml, hown, hts⟩ (metX0_need_f (k := 5)) (va_cwS 2 hts (lw_S q520 q521 q87 q522) rfl rfl rfl (by decide +kernel) ⟨Nat.le_of_ble_eq_true rfl, Nat.le_of_ble_eq_true rfl⟩) (g_preS hG) rfl rfl hl.1 rfl (lv_room (Nat.le_of_ble_eq_true rfl)) dX0_drift_17 ⟨by show _ ≤ 640; omega, by show _ ≤ 2700; omega⟩) hG (fun E9 ce9 q9 Fx_4 Vx_5 ws_ H locs hpx hG hce => ?_) (fun F_2 V_3 ws_ H locs hp hG => ?_)
    · obtain ⟨rfl, hle_Fx_4, hq9, rfl, rfl⟩ := hpx
      have hG : gW X Fx_4 V (Z) s H locs := hG
      refine g_catch (name := "LineRemarks$Refused") hown htab [] ⟨0, 87, 88, 21⟩ [] rfl (fun z9 hz9 => absurd hz9 List.not_mem_nil) (by decide) (by decide) (hts _ q410) (hG.1.2.1.1 _ qn498) hce ?_
      refine lv_astore_n (lv' := [(2, .ref q9), (0, .ref x), (1, .int (zI k))]) hx hb dX0_drift_88 rfl hl (by decide) rfl (fun ls hl => ?_)
      refine lv_aload_n hx hb dX0_drift_89 rfl (lv_at hl 1 rfl) ?_
      refine lv_aload_n hx hb dX0_drift_90 rfl (lv_at hl 0 rfl) ?_
      refine g_ci (va_runV (As := [.ref q9]) (rest := []) ⟨hx, hb, hml, hown, hts⟩ (metX0_refused (k := 5) (hS.mono hle_Fx_4) hA hq9 (by decide)) (cwV 1 hts (lw_V q589 q591 qs2 q87 q592) rfl rfl rfl (by decide +kernel) ⟨Nat.le_of_ble_eq_true rfl, Nat.le_of_ble_eq_true rfl⟩) (g_preV hG (g_recv hG (hG.vo hx0) (ci := 0) rfl)) rfl rfl hl.1 rfl (lv_room (Nat.le_of_ble_eq_true rfl)) dX0_drift_91 ⟨by show _ ≤ 640; omega, by show _ ≤ 2700; omega⟩) hG (fun r_6 F_7 V_8 ws_ H locs hp hG => ?_)
      obtain ⟨rfl, rfl, hS9, rfl⟩ := hp
      have hG : gW X Fx_4 V_8 (Z) s H locs := hG
      refine vx_ret ?_
      exact g_iret hx hb hr hlocks hG (by have e9 : opDrift a k = aNoR a 5 := (by unfold opDrift; rw [if_pos (by omega)]; first | done | rfl); rw [e9]; exact ⟨hle_Fx_4, rfl, hS9.ex, rfl⟩) ⟨by show _ ≤ 640; omega, by show _ ≤ 2700; omega⟩ dX0_drift_94
    exact hp.elim
  · refine lv_iconst (v := zI 1) hx hb dX0_drift_10 (by decide +kernel) ?_
    refine lv_goto (tgt := 15) hx hb dX0_drift_11 (by decide) ?_
    refine lv_bipush (v := zI (-5)) hx hb dX0_drift_15 (by decide +kernel) ?_
    refine g_cv (va_runS (As := [.int (zI 1), .int (zI (-5))]) (rest := []) ⟨hx, hb, hml, hown, hts⟩ (metX0_need_t (b := 1) (by decide)) (va_cwS 2 hts (lw_S q520 q521 q87 q522) rfl rfl rfl (by decide +kernel) ⟨Nat.le_of_ble_eq_true rfl, Nat.le_of_ble_eq_true rfl⟩) (g_preS hG) rfl rfl hl.1 rfl (lv_room (Nat.le_of_ble_eq_true rfl)) dX0_drift_17 ⟨by show _ ≤ 640; omega, by show _ ≤ 2700; omega⟩) hG (fun F_10 V_11 ws_ H locs hp hG => ?_)
    obtain ⟨rfl, rfl, rfl⟩ := hp
    have hG : gW X F V (Z) s H locs := hG
    refine lv_iload_n hx hb dX0_drift_20 rfl (lv_at hl 1 rfl) ?_
    refine g_i2l hx hb dX0_drift_21 (by omega) ?_
    refine lv_lconst (v := zL 1) hx hb dX0_drift_22 (by decide +kernel) ?_
    refine lv_ldc2 (v := 15) hx hb hown (hts _ q3135) dX0_drift_23 ?_
    refine g_topv (y := .long (zL 15)) (congrArg Value.long (by decide +kernel)) ?_
    by_cases hnk : 1 ≤ k ∧ k ≤ 15
    · refine g_ci (va_runS (As := [.long (zL k), .long (zL 1), .long (zL 15)]) (rest := []) ⟨hx, hb, hml, hown, hts⟩ (metX0_in (a9 := k) (b9 := 1) (c9 := 15) (by omega)) (va_cwS 3 hts (lw_S q524 q525 q87 q526) rfl rfl rfl (by decide +kernel) ⟨Nat.le_of_ble_eq_true rfl, Nat.le_of_ble_eq_true rfl⟩) (g_preS hG) rfl rfl hl.1 rfl (lv_room (Nat.le_of_ble_eq_true rfl)) dX0_drift_26 ⟨by show _ ≤ 640; omega, by show _ ≤ 2700; omega⟩) hG (fun r_12 F_13 V_14 ws_ H locs hp hG => ?_)
      obtain ⟨rfl, rfl, rfl, rfl⟩ := hp
      have hG : gW X F V (Z) s H locs := hG
      refine g_topz (y := 1) (by rw [decide_eq_true (by omega)]; rfl) ?_
      refine lv_bipush (v := zI (-6)) hx hb dX0_drift_29 (by decide +kernel) ?_
      refine g_cv (va_runS (As := [.int (zI 1), .int (zI (-6))]) (rest := []) ⟨hx, hb, hml, hown, hts⟩ (metX0_need_t (b := 1) (by decide)) (va_cwS 2 hts (lw_S q520 q521 q87 q522) rfl rfl rfl (by decide +kernel) ⟨Nat.le_of_ble_eq_true rfl, Nat.le_of_ble_eq_true rfl⟩) (g_preS hG) rfl rfl hl.1 rfl (lv_room (Nat.le_of_ble_eq_true rfl)) dX0_drift_31 ⟨by show _ ≤ 640; omega, by show _ ≤ 2700; omega⟩) hG (fun F_16 V_17 ws_ H locs hp hG => ?_)
      obtain ⟨rfl, rfl, rfl⟩ := hp
      have hG : gW X F V (Z) s H locs := hG
      obtain ⟨n1, rfl⟩ : ∃ z : Nat, k = (z : Int) := ⟨k.toNat, by omega⟩
      refine lv_aload_n hx hb dX0_drift_34 rfl (lv_at hl 0 rfl) ?_
      refine g_get (ci := 0) hx hb hts in_X0 hown hG (hG.vo hx0) rfl 4 (Nat.le_of_ble_eq_true rfl) (hts _ q388) (fun _ h9 => h9) rfl dX0_drift_35 ?_
      refine g_get (ci := 2) hx hb hts in_X2 hown hG (hG.vo hw0) rfl 0 (Nat.le_of_ble_eq_true rfl) (hts _ q334) (fun _ h9 => h9) rfl dX0_drift_38 ?_
      refine lv_iload_n hx hb dX0_drift_41 rfl (lv_at hl 1 rfl) ?_
      refine g_iadd hx hb dX0_drift_42 ?_
      refine lv_bipush (v := zI 16) hx hb dX0_drift_43 (by decide +kernel) ?_
      refine g_cgt (tgt := 52) hx hb dX0_drift_45 (by decide) (by omega) (fun h5 => ?_) (fun h5 => ?_)
      · refine lv_iconst (v := zI 0) hx hb dX0_drift_52 (by decide +kernel) ?_
        refine lv_bipush (v := zI (-7)) hx hb dX0_drift_53 (by decide +kernel) ?_
        refine g_xv (vx_runS (As := [.int (zI 0), .int (zI (-7))]) (rest := []) ⟨hx, hb, hml, hown, hts⟩ (metX0_need_f (k := 7)) (va_cwS 2 hts (lw_S q520 q521 q87 q522) rfl rfl rfl (by decide +kernel) ⟨Nat.le_of_ble_eq_true rfl, Nat.le_of_ble_eq_true rfl⟩) (g_preS hG) rfl rfl hl.1 rfl (lv_room (Nat.le_of_ble_eq_true rfl)) dX0_drift_55 ⟨by show _ ≤ 640; omega, by show _ ≤ 2700; omega⟩) hG (fun E9 ce9 q9 Fx_21 Vx_22 ws_ H locs hpx hG hce => ?_) (fun F_19 V_20 ws_ H locs hp hG => ?_)
        · obtain ⟨rfl, hle_Fx_21, hq9, rfl, rfl⟩ := hpx
          have hG : gW X Fx_21 V (Z) s H locs := hG
          refine g_catch (name := "LineRemarks$Refused") hown htab [] ⟨0, 87, 88, 21⟩ [] rfl (fun z9 hz9 => absurd hz9 List.not_mem_nil) (by decide) (by decide) (hts _ q410) (hG.1.2.1.1 _ qn498) hce ?_
          refine lv_astore_n (lv' := [(2, .ref q9), (0, .ref x), (1, .int (zI (n1 : Int)))]) hx hb dX0_drift_88 rfl hl (by decide) rfl (fun ls hl => ?_)
          refine lv_aload_n hx hb dX0_drift_89 rfl (lv_at hl 1 rfl) ?_
          refine lv_aload_n hx hb dX0_drift_90 rfl (lv_at hl 0 rfl) ?_
          refine g_ci (va_runV (As := [.ref q9]) (rest := []) ⟨hx, hb, hml, hown, hts⟩ (metX0_refused (k := 7) (hS.mono hle_Fx_21) hA hq9 (by decide)) (cwV 1 hts (lw_V q589 q591 qs2 q87 q592) rfl rfl rfl (by decide +kernel) ⟨Nat.le_of_ble_eq_true rfl, Nat.le_of_ble_eq_true rfl⟩) (g_preV hG (g_recv hG (hG.vo hx0) (ci := 0) rfl)) rfl rfl hl.1 rfl (lv_room (Nat.le_of_ble_eq_true rfl)) dX0_drift_91 ⟨by show _ ≤ 640; omega, by show _ ≤ 2700; omega⟩) hG (fun r_23 F_24 V_25 ws_ H locs hp hG => ?_)
          obtain ⟨rfl, rfl, hS9, rfl⟩ := hp
          have hG : gW X Fx_21 V_25 (Z) s H locs := hG
          refine vx_ret ?_
          exact g_iret hx hb hr hlocks hG (by have e9 : opDrift a (n1 : Int) = aNoR a 7 := (by unfold opDrift; rw [if_neg (by omega), if_neg (by omega), if_pos (by omega)]; first | done | rfl); rw [e9]; exact ⟨hle_Fx_21, rfl, hS9.ex, rfl⟩) ⟨by show _ ≤ 640; omega, by show _ ≤ 2700; omega⟩ dX0_drift_94
        exact hp.elim
      · refine lv_iconst (v := zI 1) hx hb dX0_drift_48 (by decide +kernel) ?_
        refine lv_goto (tgt := 53) hx hb dX0_drift_49 (by decide) ?_
        refine lv_bipush (v := zI (-7)) hx hb dX0_drift_53 (by decide +kernel) ?_
        refine g_cv (va_runS (As := [.int (zI 1), .int (zI (-7))]) (rest := []) ⟨hx, hb, hml, hown, hts⟩ (metX0_need_t (b := 1) (by decide)) (va_cwS 2 hts (lw_S q520 q521 q87 q522) rfl rfl rfl (by decide +kernel) ⟨Nat.le_of_ble_eq_true rfl, Nat.le_of_ble_eq_true rfl⟩) (g_preS hG) rfl rfl hl.1 rfl (lv_room (Nat.le_of_ble_eq_true rfl)) dX0_drift_55 ⟨by show _ ≤ 640; omega, by show _ ≤ 2700; omega⟩) hG (fun F_27 V_28 ws_ H locs hp hG => ?_)
        obtain ⟨rfl, rfl, rfl⟩ := hp
        have hG : gW X F V (Z) s H locs := hG
        refine lv_iconst (v := zI 0) hx hb dX0_drift_58 (by decide +kernel) ?_
        refine lv_istore_n (lv' := [(2, .int (zI 0)), (0, .ref x), (1, .int (zI (n1 : Int)))]) hx hb dX0_drift_59 rfl hl (by decide) rfl (fun ls hl => ?_)
        have hl : lv_has ls 3 [(2, .int (zI ((0 : Nat) : Int))), (0, .ref x), (1, .int (zI (n1 : Int)))] := by exact hl
        refine g_loopA (fun mz H locs ls => ∃ (k : Nat) (F1 : gF) (U : gV) (ra9 la9 : Nat → Nat), (k ≤ n1 ∧ mz = n1 - k ∧ gLe F F1 ∧ xWd X F1 U 4 (wDrifts (aWd a) k) wa rv rk st ra9 la9 ma ∧ vxD V U) ∧ gW X F1 U (Z) s H locs ∧ lv_has ls 3 [(0, .ref x), (1, .int (zI (n1 : Int))), (2, .int (zI ((k : Nat) : Int)))]) (n1 - 0) 40 170 640 2700 ⟨0, F, V, ra, la, ⟨Nat.zero_le _, rfl, gLe.rfl (V := V), hW, vxD.rf⟩, hG, (lv_sub hl [1, 2, 0] rfl)⟩ ⟨by omega, by omega⟩ (fun mz ihA H locs ls cells slots hroom hI => ?_)
        obtain ⟨k, F1, U, ra9, la9, ⟨hk, hmz, hle_F1, hWk, hvD⟩, hG, hl⟩ := hI
        have hy0 := (hvD 0 (by decide) (Or.inl (by decide))).trans hx0
        have hNk := wDrifts_N (aWd a) k
        have hKk := hK.drifts (by omega) k (by omega)
        have hy4 : U 4 = some (wa, oB 2 [.int (zI (wN (wDrifts (aWd a) k) : Int)), .int (zI (wM (wDrifts (aWd a) k) : Int)), .int (zI (wRun (wDrifts (aWd a) k) : Int)), .int (zI (wNeed (wDrifts (aWd a) k) : Int)), .int (zI (wMar (wDrifts (aWd a) k) : Int)), .int (wSeed (wDrifts (aWd a) k)), .ref rv, .ref rk, .ref st]) := hWk.1
        refine lv_iload_n hx hb dX0_drift_60 rfl (lv_at hl 2 rfl) ?_
        refine lv_iload_n hx hb dX0_drift_61 rfl (lv_at hl 1 rfl) ?_
        refine g_cge (tgt := 78) hx hb dX0_drift_62 (by decide) (by omega) (fun h6 => ?_) (fun h6 => ?_)
        · have hkn : k = n1 := by omega
          subst hkn
          refine lv_aload_n hx hb dX0_drift_78 rfl (lv_at hl 0 rfl) ?_
          refine g_get (ci := 0) hx hb hts in_X0 hown hG (hG.vo hy0) rfl 4 (Nat.le_of_ble_eq_true rfl) (hts _ q388) (fun _ h9 => h9) rfl dX0_drift_79 ?_
          refine g_get (ci := 2) hx hb hts in_X2 hown hG (hG.vo hy4) rfl 0 (Nat.le_of_ble_eq_true rfl) (hts _ q334) (fun _ h9 => h9) rfl dX0_drift_82 ?_
          refine lv_iconst (v := zI 1) hx hb dX0_drift_85 (by decide +kernel) ?_
          refine g_isub hx hb dX0_drift_86 ?_
          refine vx_ret ?_
          exact g_iret hx hb hr hlocks hG (by have e9 : opDrift a (k : Int) = (((wN (wDrifts (aWd a) k) : Int) - 1), aSetW a (wDrifts (aWd a) k)) := (by unfold opDrift; rw [if_neg (by omega), if_neg (by omega), if_neg (by omega)]; first | done | exact Prod.ext (show ((wN (aWd a) : Int) + (k : Int) - 1) = _ by omega) rfl); rw [e9]; exact ⟨hle_F1, rfl, (((hS.mono hle_F1).setW hA hvD hWk (fun _ _ => rfl))).ex, rfl⟩) ⟨by show _ ≤ 640; omega, by show _ ≤ 2700; omega⟩ dX0_drift_87
        · refine lv_aload_n hx hb dX0_drift_65 rfl (lv_at hl 0 rfl) ?_
          refine g_get (ci := 0) hx hb hts in_X0 hown hG (hG.vo hy0) rfl 4 (Nat.le_of_ble_eq_true rfl) (hts _ q388) (fun _ h9 => h9) rfl dX0_drift_66 ?_
          refine g_cv (va_runV (As := []) (rest := []) ⟨hx, hb, hml, hown, hts⟩ (metX2_drift hWk hKk ⟨by omega, by omega⟩) (cwV 0 hts (lw_V q3136 q3137 q3138 q100 q3139) rfl rfl rfl (by decide +kernel) ⟨Nat.le_of_ble_eq_true rfl, Nat.le_of_ble_eq_true rfl⟩) (g_preV hG (g_recv hG (hG.vo hy4) (ci := 2) rfl)) rfl rfl hl.1 rfl (lv_room (Nat.le_of_ble_eq_true rfl)) dX0_drift_69 ⟨by show _ ≤ 640; omega, by show _ ≤ 2700; omega⟩) hG (fun G2 V_30 ws_ H locs hp hG => ?_)
          obtain ⟨hle_G2, ra8, la8, hW8, hD8, rfl⟩ := hp
          have hG : gW X G2 V_30 (Z) s H locs := hG
          refine lv_iinc (v := zI (((k : Nat) : Int) + 1 : Int)) (lv' := [(2, .int (zI (((k : Nat) : Int) + 1 : Int))), (0, .ref x), (1, .int (zI (n1 : Int)))]) hx hb dX0_drift_72 hl (k := 2) rfl ((zI_add _ _).trans (congrArg zI (by omega))) (by decide) rfl (fun ls hl => ?_)
          refine lv_goto (tgt := 60) hx hb dX0_drift_75 (by decide) ?_
          have hl : lv_has ls 3 [(2, .int (zI ((k + 1 : Nat) : Int))), (0, .ref x), (1, .int (zI (n1 : Int)))] := by exact hl
          exact ihA (n1 - (k + 1)) (by omega) H locs ls _ _ (room_U hroom (show n1 - (k + 1) < mz by omega)) ⟨(k + 1), G2, V_30, ra8, la8, ⟨by omega, rfl, hle_F1.tr hle_G2, hW8, hvD.tr hD8⟩, hG, (lv_sub hl [1, 2, 0] rfl)⟩
    · refine g_ci (va_runS (As := [.long (zL k), .long (zL 1), .long (zL 15)]) (rest := []) ⟨hx, hb, hml, hown, hts⟩ (metX0_in (a9 := k) (b9 := 1) (c9 := 15) (by omega)) (va_cwS 3 hts (lw_S q524 q525 q87 q526) rfl rfl rfl (by decide +kernel) ⟨Nat.le_of_ble_eq_true rfl, Nat.le_of_ble_eq_true rfl⟩) (g_preS hG) rfl rfl hl.1 rfl (lv_room (Nat.le_of_ble_eq_true rfl)) dX0_drift_26 ⟨by show _ ≤ 640; omega, by show _ ≤ 2700; omega⟩) hG (fun r_31 F_32 V_33 ws_ H locs hp hG => ?_)
      obtain ⟨rfl, rfl, rfl, rfl⟩ := hp
      have hG : gW X F V (Z) s H locs := hG
      refine g_topz (y := 0) (by rw [decide_eq_false (by omega)]; rfl) ?_
      refine lv_bipush (v := zI (-6)) hx hb dX0_drift_29 (by decide +kernel) ?_
      refine g_xv (vx_runS (As := [.int (zI 0), .int (zI (-6))]) (rest := []) ⟨hx, hb, hml, hown, hts⟩ (metX0_need_f (k := 6)) (va_cwS 2 hts (lw_S q520 q521 q87 q522) rfl rfl rfl (by decide +kernel) ⟨Nat.le_of_ble_eq_true rfl, Nat.le_of_ble_eq_true rfl⟩) (g_preS hG) rfl rfl hl.1 rfl (lv_room (Nat.le_of_ble_eq_true rfl)) dX0_drift_31 ⟨by show _ ≤ 640; omega, by show _ ≤ 2700; omega⟩) hG (fun E9 ce9 q9 Fx_37 Vx_38 ws_ H locs hpx hG hce => ?_) (fun F_35 V_36 ws_ H locs hp hG => ?_)
      · obtain ⟨rfl, hle_Fx_37, hq9, rfl, rfl⟩ := hpx
        have hG : gW X Fx_37 V (Z) s H locs := hG
        refine g_catch (name := "LineRemarks$Refused") hown htab [] ⟨0, 87, 88, 21⟩ [] rfl (fun z9 hz9 => absurd hz9 List.not_mem_nil) (by decide) (by decide) (hts _ q410) (hG.1.2.1.1 _ qn498) hce ?_
        refine lv_astore_n (lv' := [(2, .ref q9), (0, .ref x), (1, .int (zI k))]) hx hb dX0_drift_88 rfl hl (by decide) rfl (fun ls hl => ?_)
        refine lv_aload_n hx hb dX0_drift_89 rfl (lv_at hl 1 rfl) ?_
        refine lv_aload_n hx hb dX0_drift_90 rfl (lv_at hl 0 rfl) ?_
        refine g_ci (va_runV (As := [.ref q9]) (rest := []) ⟨hx, hb, hml, hown, hts⟩ (metX0_refused (k := 6) (hS.mono hle_Fx_37) hA hq9 (by decide)) (cwV 1 hts (lw_V q589 q591 qs2 q87 q592) rfl rfl rfl (by decide +kernel) ⟨Nat.le_of_ble_eq_true rfl, Nat.le_of_ble_eq_true rfl⟩) (g_preV hG (g_recv hG (hG.vo hx0) (ci := 0) rfl)) rfl rfl hl.1 rfl (lv_room (Nat.le_of_ble_eq_true rfl)) dX0_drift_91 ⟨by show _ ≤ 640; omega, by show _ ≤ 2700; omega⟩) hG (fun r_39 F_40 V_41 ws_ H locs hp hG => ?_)
        obtain ⟨rfl, rfl, hS9, rfl⟩ := hp
        have hG : gW X Fx_37 V_41 (Z) s H locs := hG
        refine vx_ret ?_
        exact g_iret hx hb hr hlocks hG (by have e9 : opDrift a k = aNoR a 6 := (by unfold opDrift; rw [if_neg (by omega), if_pos (by omega)]; first | done | rfl); rw [e9]; exact ⟨hle_Fx_37, rfl, hS9.ex, rfl⟩) ⟨by show _ ≤ 640; omega, by show _ ≤ 2700; omega⟩ dX0_drift_94
      exact hp.elim

