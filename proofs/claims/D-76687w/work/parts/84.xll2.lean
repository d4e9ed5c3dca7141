set_option maxRecDepth 100000
theorem llE_ins {mo : Int} {N : List Nd} {i : Nat} {x : Nd} (h : i ≤ N.length) : llE mo (insN N i x) = oB 27 [.int (zI mo), .int (zI ((N.length : Int) + 1)), .ref (if i = 0 then x.2.1 else nA N 0), .ref (if i = N.length then x.2.1 else nA N (N.length - 1))] := by
  have g := insN_get (x := x) h
  have e0 : hdO (insN N i x) = some (if i = 0 then x.2.1 else nA N 0) := by
    unfold hdO
    rw [insN_len h, if_pos (Nat.succ_pos _)]
    show some (nG (insN N i x) 0).2.1 = _
    rw [g]
    by_cases e : i = 0
    · subst e; rw [if_neg (Nat.lt_irrefl _), if_pos rfl, if_pos rfl]
    · rw [if_pos (by omega), if_neg e]; rfl
  have e1 : tlO (insN N i x) = some (if i = N.length then x.2.1 else nA N (N.length - 1)) := by
    unfold tlO
    rw [insN_len h, if_pos (Nat.succ_pos _), Nat.add_sub_cancel]
    show some (nG (insN N i x) N.length).2.1 = _
    rw [g, if_neg (by omega)]
    by_cases e : i = N.length
    · rw [if_pos e.symm, if_pos e]
    · rw [if_neg (fun q => e q.symm), if_neg e]; rfl
  unfold llE
  rw [e0, e1, insN_len h, show (((N.length + 1 : Nat)) : Int) = (N.length : Int) + 1 by omega]
  rfl
theorem shr1 {n : Nat} (h : n < 2147483648) : zI (n : Int) >>> (zI 1 &&& 31) = zI ((n / 2 : Nat) : Int) := by
  have e : (zI (n : Int) >>> (zI 1 &&& 31)).toInt = (zI (n : Int)).toInt / 2 ^ 1 := Jvm.Kit.i32_shr _ _ (by decide +kernel)
  rw [zI_of (zI (n : Int) >>> (zI 1 &&& 31)), e, zI_toInt ⟨by omega, by omega⟩]
  congr 1
theorem gV_ne {X : gX} {F : gF} {V : gV} {ws : va_W} {s : State} {H : Heap} {locs : List Loc} (hG : gW X F V ws s H locs) {r r' a a' : Nat} {e e' : va_E} (h1 : V r = some (a, e)) (h2 : V r' = some (a', e')) (hne : r ≠ r') : a ≠ a' := by
  have h := hG.2.1.2.2.2.2 r (a, e) h1
  exact fun q => hne (h.2.2.2.2.2 r' (a', e') h2 q)
set_option maxHeartbeats 4000000 in
theorem metJ28_init {l : Launch} {X : gX} {F : gF} {V : gV} {Z : va_W} {nd e9 : Nat} {pv nx : Option Nat} : Met l yJ28_init (ws_ yJ28_init cJ28_init 4 none) ({ frames := 1, cells := 0, slots := 0, locals := 20 }) (gP X F V ((nd, oB 28 [.null, .null, .null]) :: Z) [.ref nd, va_rf pv, .ref e9, va_rf nx]) (gQv X (fun G U ws => F = G ∧ V = U ∧ ((nd, ndE e9 nx pv) :: Z) = ws)) 0 0 (gA X) := by
  refine Met.g (by decide) (by cases pv <;> cases nx <;> exact Nat.le_of_ble_eq_true rfl) ?_
  intro p e s m below meth c ls hx hb hr hts hown hlocks hml hin hG hl
  have hl : lv_has ls 4 [(0, .ref nd), (1, va_rf pv), (2, .ref e9), (3, va_rf nx)] := by cases pv <;> cases nx <;> exact hl
  refine lv_aload_n hx hb dJ28_init_0 rfl (lv_at hl 0 rfl) ?_
  refine W.objInit hx hb hown (hts _ q1225) (hts _ q170) (hts _ q171) rfl (by rw [hml]; exact hl.1) rfl dJ28_init_1 (Nat.le_of_ble_eq_true rfl) (Nat.le_of_ble_eq_true rfl) ?_
  refine W.eq (g2 := F0 m 4 ls []) rfl ?_
  refine lv_aload_n hx hb dJ28_init_4 rfl (lv_at hl 0 rfl) ?_
  refine lv_aload_n hx hb dJ28_init_5 rfl (lv_at hl 2 rfl) ?_
  refine g_put (ci := 28) hx hb hts in_J28 tyJ28 tyJ28_ok nmJ28 hown hG 0 rfl rfl 0 (Nat.le_of_ble_eq_true rfl) (hts _ q1226) (fun _ h9 => h9) rfl (tyJ28_ok 0 (Nat.le_of_ble_eq_true rfl)) rfl rfl (Nat.le_of_ble_eq_true rfl) dJ28_init_6 (fun H locs (hG : gW X F V ((nd, oB 28 [.ref e9, .null, .null]) :: Z) s H locs) => ?_)
  refine lv_aload_n hx hb dJ28_init_9 rfl (lv_at hl 0 rfl) ?_
  refine g_aload_nq hx hb dJ28_init_10 rfl (lv_at hl 3 rfl) ?_
  refine g_put (ci := 28) hx hb hts in_J28 tyJ28 tyJ28_ok nmJ28 hown hG 0 rfl rfl 1 (Nat.le_of_ble_eq_true rfl) (hts _ q1229) (fun _ h9 => h9) rfl (tyJ28_ok 1 (Nat.le_of_ble_eq_true rfl)) (va_rf_nar _ _) (va_rf_fit _ _) (Nat.le_of_ble_eq_true rfl) dJ28_init_11 (fun H locs (hG : gW X F V ((nd, oB 28 [.ref e9, va_rf nx, .null]) :: Z) s H locs) => ?_)
  refine lv_aload_n hx hb dJ28_init_14 rfl (lv_at hl 0 rfl) ?_
  refine g_aload_nq hx hb dJ28_init_15 rfl (lv_at hl 1 rfl) ?_
  refine g_put (ci := 28) hx hb hts in_J28 tyJ28 tyJ28_ok nmJ28 hown hG 0 rfl rfl 2 (Nat.le_of_ble_eq_true rfl) (hts _ q1232) (fun _ h9 => h9) rfl (tyJ28_ok 2 (Nat.le_of_ble_eq_true rfl)) (va_rf_nar _ _) (va_rf_fit _ _) (Nat.le_of_ble_eq_true rfl) dJ28_init_16 (fun H locs (hG : gW X F V ((nd, oB 28 [.ref e9, va_rf nx, va_rf pv]) :: Z) s H locs) => ?_)
  exact g_vret hx hb hr hlocks hG (⟨rfl, rfl, rfl⟩) ⟨Nat.le_of_ble_eq_true rfl, Nat.le_of_ble_eq_true rfl⟩ dJ28_init_19

set_option maxHeartbeats 4000000 in
theorem metJ18_init {l : Launch} {X : gX} {F : gF} {V : gV} {Z : va_W} {a : Nat} {v0 : Value} : Met l yJ18_init (ws_ yJ18_init cJ18_init 1 none) ({ frames := 2, cells := 0, slots := 0, locals := 40 }) (gP X F V ((a, oB 27 [v0, .int (zI 0), .null, .null]) :: Z) [.ref a]) (gQv X (fun G U ws => F = G ∧ V = U ∧ ((a, oB 27 [.int (zI 0), .int (zI 0), .null, .null]) :: Z) = ws)) 0 0 (gA X) := by
  refine Met.g (by decide) (Nat.le_of_ble_eq_true rfl) ?_
  intro p e s m below meth c ls hx hb hr hts hown hlocks hml hin hG hl
  have hl : lv_has ls 1 [(0, .ref a)] := hl
  refine lv_aload_n hx hb dJ18_init_0 rfl (lv_at hl 0 rfl) ?_
  refine g_cv (va_runI (As := []) (rest := []) ⟨hx, hb, hml, hown, hts⟩ (metJ5_init) (cwI 0 hts (lw_meth q295) rfl rfl rfl (hts _ q95) (hts _ q759) (hts _ q294) rfl (by decide +kernel) ⟨Nat.le_of_ble_eq_true rfl, Nat.le_of_ble_eq_true rfl⟩) (g_preS hG) rfl rfl hl.1 rfl (lv_room (Nat.le_of_ble_eq_true rfl)) dJ18_init_1 ⟨Nat.le_of_ble_eq_true rfl, Nat.le_of_ble_eq_true rfl⟩) hG (fun F_2 V_3 ws_ H locs hp hG => ?_)
  obtain ⟨rfl, rfl, rfl⟩ := hp
  have hG : gW X F V ((a, oB 27 [v0, .int (zI 0), .null, .null]) :: Z) s H locs := hG
  refine lv_aload_n hx hb dJ18_init_4 rfl (lv_at hl 0 rfl) ?_
  refine lv_iconst (v := zI 0) hx hb dJ18_init_5 (by decide +kernel) ?_
  refine g_put (ci := 27) hx hb hts in_J41 tyJ41 tyJ41_ok nmJ41 hown hG 0 rfl rfl 0 (Nat.le_of_ble_eq_true rfl) (hts _ q766) (fun _ h9 => h9) rfl (tyJ41_ok 0 (Nat.le_of_ble_eq_true rfl)) rfl rfl (Nat.le_of_ble_eq_true rfl) dJ18_init_6 (fun H locs (hG : gW X F V ((a, oB 27 [.int (zI 0), .int (zI 0), .null, .null]) :: Z) s H locs) => ?_)
  exact g_vret hx hb hr hlocks hG (⟨rfl, rfl, rfl⟩) ⟨Nat.le_of_ble_eq_true rfl, Nat.le_of_ble_eq_true rfl⟩ dJ18_init_9

set_option maxHeartbeats 4000000 in
theorem metJ40_init {l : Launch} {X : gX} {F : gF} {V : gV} {Z : va_W} {a : Nat} : Met l yJ40_init (ws_ yJ40_init cJ40_init 1 none) ({ frames := 3, cells := 0, slots := 0, locals := 60 }) (gP X F V ((a, oB 27 [.int (zI 0), .int (zI 0), .null, .null]) :: Z) [.ref a]) (gQv X (fun G U ws => F = G ∧ V = U ∧ ((a, oB 27 [.int (zI 0), .int (zI 0), .null, .null]) :: Z) = ws)) 0 0 (gA X) := by
  refine Met.g (by decide) (Nat.le_of_ble_eq_true rfl) ?_
  intro p e s m below meth c ls hx hb hr hts hown hlocks hml hin hG hl
  have hl : lv_has ls 1 [(0, .ref a)] := hl
  refine lv_aload_n hx hb dJ40_init_0 rfl (lv_at hl 0 rfl) ?_
  refine g_cv (va_runI (As := []) (rest := []) ⟨hx, hb, hml, hown, hts⟩ (metJ18_init) (cwI 0 hts (lw_meth q758) rfl rfl rfl (hts _ q119) (hts _ q2506) (hts _ q757) rfl (by decide +kernel) ⟨Nat.le_of_ble_eq_true rfl, Nat.le_of_ble_eq_true rfl⟩) (g_preS hG) rfl rfl hl.1 rfl (lv_room (Nat.le_of_ble_eq_true rfl)) dJ40_init_1 ⟨Nat.le_of_ble_eq_true rfl, Nat.le_of_ble_eq_true rfl⟩) hG (fun F_2 V_3 ws_ H locs hp hG => ?_)
  obtain ⟨rfl, rfl, rfl⟩ := hp
  have hG : gW X F V ((a, oB 27 [.int (zI 0), .int (zI 0), .null, .null]) :: Z) s H locs := hG
  exact g_vret hx hb hr hlocks hG (⟨rfl, rfl, rfl⟩) ⟨Nat.le_of_ble_eq_true rfl, Nat.le_of_ble_eq_true rfl⟩ dJ40_init_4

set_option maxHeartbeats 4000000 in
theorem metJ41_init {l : Launch} {X : gX} {F : gF} {V : gV} {Z : va_W} {ll : Nat} : Met l yJ41_init (ws_ yJ41_init cJ41_init 1 none) ({ frames := 4, cells := 0, slots := 0, locals := 80 }) (gP X F V ((ll, oB 27 [.int (zI 0), .int (zI 0), .null, .null]) :: Z) [.ref ll]) (gQv X (fun G U ws => F = G ∧ V = U ∧ ((ll, llE 0 []) :: Z) = ws)) 0 0 (gA X) := by
  refine Met.g (by decide) (Nat.le_of_ble_eq_true rfl) ?_
  intro p e s m below meth c ls hx hb hr hts hown hlocks hml hin hG hl
  have hl : lv_has ls 1 [(0, .ref ll)] := hl
  refine lv_aload_n hx hb dJ41_init_0 rfl (lv_at hl 0 rfl) ?_
  refine g_cv (va_runI (As := []) (rest := []) ⟨hx, hb, hml, hown, hts⟩ (metJ40_init) (cwI 0 hts (lw_meth q2505) rfl rfl rfl (hts _ q155) (hts _ q2503) (hts _ q2504) rfl (by decide +kernel) ⟨Nat.le_of_ble_eq_true rfl, Nat.le_of_ble_eq_true rfl⟩) (g_preS hG) rfl rfl hl.1 rfl (lv_room (Nat.le_of_ble_eq_true rfl)) dJ41_init_1 ⟨Nat.le_of_ble_eq_true rfl, Nat.le_of_ble_eq_true rfl⟩) hG (fun F_2 V_3 ws_ H locs hp hG => ?_)
  obtain ⟨rfl, rfl, rfl⟩ := hp
  have hG : gW X F V ((ll, oB 27 [.int (zI 0), .int (zI 0), .null, .null]) :: Z) s H locs := hG
  refine lv_aload_n hx hb dJ41_init_4 rfl (lv_at hl 0 rfl) ?_
  refine lv_iconst (v := zI 0) hx hb dJ41_init_5 (by decide +kernel) ?_
  refine g_put (ci := 27) hx hb hts in_J41 tyJ41 tyJ41_ok nmJ41 hown hG 0 rfl rfl 1 (Nat.le_of_ble_eq_true rfl) (hts _ q2507) (fun _ h9 => h9) rfl (tyJ41_ok 1 (Nat.le_of_ble_eq_true rfl)) rfl rfl (Nat.le_of_ble_eq_true rfl) dJ41_init_6 (fun H locs (hG : gW X F V ((ll, oB 27 [.int (zI 0), .int (zI 0), .null, .null]) :: Z) s H locs) => ?_)
  exact g_vret hx hb hr hlocks hG (⟨rfl, rfl, rfl⟩) ⟨Nat.le_of_ble_eq_true rfl, Nat.le_of_ble_eq_true rfl⟩ dJ41_init_9

set_option maxHeartbeats 4000000 in
theorem metJ41_linkLast {l : Launch} {X : gX} {F : gF} {V : gV} {Z : va_W} {e9 ll B : Nat} {mo : Int} {N : List Nd} (hN : llN V B N) (h24 : N.length ≤ 1000) : Met l yJ41_linkLast (ws_ yJ41_linkLast cJ41_linkLast 4 none) ({ frames := 2, cells := 1, slots := 3, locals := 43 }) (gP X F V ((ll, oB 27 [.int (zI mo), .int (zI (N.length : Int)), va_rf (hdO N), va_rf (tlO N)]) :: Z) [.ref ll, .ref e9]) (gQv X (fun G U ws => F = G ∧ ∃ a9 : Nat, llN U (B + 1) (insN N N.length (B, a9, e9)) ∧ vx100 V U ∧ ((ll, llE (mo + 1) (insN N N.length (B, a9, e9))) :: Z) = ws)) 1 3 (gA X) := by
  refine Met.g (by decide) (Nat.le_of_ble_eq_true rfl) ?_
  intro p e s m below meth c ls hx hb hr hts hown hlocks hml hin hG hl
  have hl : lv_has ls 4 [(0, .ref ll), (1, .ref e9)] := hl
  have hB := hN.1
  rcases Nat.eq_zero_or_pos N.length with h0 | h0
  · have ehd : hdO N = none := if_neg (by omega)
    have etl : tlO N = none := if_neg (by omega)
    rw [ehd, etl] at hG
    have hG : gW X F V ((ll, oB 27 [.int (zI mo), .int (zI (N.length : Int)), .null, .null]) :: Z) s _ _ := hG
    refine lv_aload_n hx hb dJ41_linkLast_0 rfl (lv_at hl 0 rfl) ?_
    refine g_get (ci := 27) hx hb hts in_J41 hown hG (hG.at 0 rfl) rfl 3 (Nat.le_of_ble_eq_true rfl) (hts _ q2510) (fun _ h9 => h9) rfl dJ41_linkLast_1 ?_
    refine lv_astore_nN (lv' := [(2, .null), (0, .ref ll), (1, .ref e9)]) hx hb dJ41_linkLast_4 rfl hl (by decide) rfl (fun ls hl => ?_)
    refine g_new (ci := 28) hx hb hts in_J28 tyJ28 tyJ28_ok hown (hts _ q1220) (hts _ q1221) (hts _ q131) hG rfl (fs := [.null, .null, .null]) rfl ⟨Nat.le_of_ble_eq_true rfl, Nat.le_of_ble_eq_true rfl⟩ dJ41_linkLast_5 (fun nn H (hG : gW X F V ((nn, oB 28 [.null, .null, .null]) :: (ll, oB 27 [.int (zI mo), .int (zI (N.length : Int)), .null, .null]) :: Z) s H _) => ?_)
    refine lv_dup hx hb dJ41_linkLast_8 rfl ?_
    refine lv_aload_nN hx hb dJ41_linkLast_9 rfl (lv_at hl 0 rfl) ?_
    refine lv_aload_n hx hb dJ41_linkLast_10 rfl (lv_at hl 2 rfl) ?_
    refine lv_null hx hb dJ41_linkLast_11 ?_
    refine g_cv (va_runI (As := [.null, .ref e9, .null]) (rest := [.ref nn]) ⟨hx, hb, hml, hown, hts⟩ (metJ28_init (pv := none) (nx := none)) (cwI 3 hts (lw_meth q1224) rfl rfl rfl (hts _ q131) (hts _ q1222) (hts _ q1223) rfl (by decide +kernel) ⟨Nat.le_of_ble_eq_true rfl, Nat.le_of_ble_eq_true rfl⟩) (g_preS hG) rfl rfl hl.1 rfl (lv_room (Nat.le_of_ble_eq_true rfl)) dJ41_linkLast_12 ⟨Nat.le_of_ble_eq_true rfl, Nat.le_of_ble_eq_true rfl⟩) hG (fun F_2 V_3 ws_ H locs hp hG => ?_)
    obtain ⟨rfl, rfl, rfl⟩ := hp
    have hG : gW X F V ((nn, oB 28 [.ref e9, .null, .null]) :: (ll, oB 27 [.int (zI mo), .int (zI (N.length : Int)), .null, .null]) :: Z) s H locs := hG
    have hG := hG.toV B
    have hBn : (va_up V B (some (nn, oB 28 [.ref e9, .null, .null]))) B = some (nn, oB 28 [.ref e9, .null, .null]) := vus
    have hG : gW X F (va_up V B (some (nn, oB 28 [.ref e9, .null, .null]))) ((ll, oB 27 [.int (zI mo), .int (zI (N.length : Int)), .null, .null]) :: Z) s _ _ := hG
    refine lv_astore_n (lv' := [(3, .ref nn), (2, .null), (0, .ref ll), (1, .ref e9)]) hx hb dJ41_linkLast_15 rfl hl (by decide) rfl (fun ls hl => ?_)
    refine lv_aload_n hx hb dJ41_linkLast_16 rfl (lv_at hl 2 rfl) ?_
    refine lv_aload_n hx hb dJ41_linkLast_17 rfl (lv_at hl 0 rfl) ?_
    refine g_put (ci := 27) hx hb hts in_J41 tyJ41 tyJ41_ok nmJ41 hown hG 0 rfl rfl 3 (Nat.le_of_ble_eq_true rfl) (hts _ q2510) (fun _ h9 => h9) rfl (tyJ41_ok 3 (Nat.le_of_ble_eq_true rfl)) rfl rfl (Nat.le_of_ble_eq_true rfl) dJ41_linkLast_18 (fun H locs (hG : gW X F (va_up V B (some (nn, oB 28 [.ref e9, .null, .null]))) ((ll, oB 27 [.int (zI mo), .int (zI (N.length : Int)), .null, .ref nn]) :: Z) s H locs) => ?_)
    refine lv_aload_nN hx hb dJ41_linkLast_21 rfl (lv_at hl 1 rfl) ?_
    refine lv_ifnonnullN hx hb dJ41_linkLast_22 ?_
    refine lv_aload_n hx hb dJ41_linkLast_25 rfl (lv_at hl 2 rfl) ?_
    refine lv_aload_n hx hb dJ41_linkLast_26 rfl (lv_at hl 0 rfl) ?_
    refine g_put (ci := 27) hx hb hts in_J41 tyJ41 tyJ41_ok nmJ41 hown hG 0 rfl rfl 2 (Nat.le_of_ble_eq_true rfl) (hts _ q2509) (fun _ h9 => h9) rfl (tyJ41_ok 2 (Nat.le_of_ble_eq_true rfl)) rfl rfl (Nat.le_of_ble_eq_true rfl) dJ41_linkLast_27 (fun H locs (hG : gW X F (va_up V B (some (nn, oB 28 [.ref e9, .null, .null]))) ((ll, oB 27 [.int (zI mo), .int (zI (N.length : Int)), .ref nn, .ref nn]) :: Z) s H locs) => ?_)
    refine lv_goto (tgt := 38) hx hb dJ41_linkLast_30 (by decide) ?_
    refine lv_aload_n hx hb dJ41_linkLast_38 rfl (lv_at hl 2 rfl) ?_
    refine lv_dup hx hb dJ41_linkLast_39 rfl ?_
    refine g_get (ci := 27) hx hb hts in_J41 hown hG (hG.at 0 rfl) rfl 1 (Nat.le_of_ble_eq_true rfl) (hts _ q2507) (fun _ h9 => h9) rfl dJ41_linkLast_40 ?_
    refine lv_iconst (v := zI 1) hx hb dJ41_linkLast_43 (by decide +kernel) ?_
    refine g_iadd hx hb dJ41_linkLast_44 ?_
    refine g_put (ci := 27) hx hb hts in_J41 tyJ41 tyJ41_ok nmJ41 hown hG 0 rfl rfl 1 (Nat.le_of_ble_eq_true rfl) (hts _ q2507) (fun _ h9 => h9) rfl (tyJ41_ok 1 (Nat.le_of_ble_eq_true rfl)) rfl rfl (Nat.le_of_ble_eq_true rfl) dJ41_linkLast_45 (fun H locs (hG : gW X F (va_up V B (some (nn, oB 28 [.ref e9, .null, .null]))) ((ll, oB 27 [.int (zI mo), .int (zI ((N.length : Int) + 1)), .ref nn, .ref nn]) :: Z) s H locs) => ?_)
    refine lv_aload_n hx hb dJ41_linkLast_48 rfl (lv_at hl 2 rfl) ?_
    refine lv_dup hx hb dJ41_linkLast_49 rfl ?_
    refine g_get (ci := 27) hx hb hts in_J41 hown hG (hG.at 0 rfl) rfl 0 (Nat.le_of_ble_eq_true rfl) (hts _ q772) (u_same (hts _ q768)) rfl dJ41_linkLast_50 ?_
    refine lv_iconst (v := zI 1) hx hb dJ41_linkLast_53 (by decide +kernel) ?_
    refine g_iadd hx hb dJ41_linkLast_54 ?_
    refine g_put (ci := 27) hx hb hts in_J41 tyJ41 tyJ41_ok nmJ41 hown hG 0 rfl rfl 0 (Nat.le_of_ble_eq_true rfl) (hts _ q772) (u_same (hts _ q768)) rfl (tyJ41_ok 0 (Nat.le_of_ble_eq_true rfl)) rfl rfl (Nat.le_of_ble_eq_true rfl) dJ41_linkLast_55 (fun H locs (hG : gW X F (va_up V B (some (nn, oB 28 [.ref e9, .null, .null]))) ((ll, oB 27 [.int (zI (mo + 1)), .int (zI ((N.length : Int) + 1)), .ref nn, .ref nn]) :: Z) s H locs) => ?_)
    exact g_vret hx hb hr hlocks hG (⟨rfl, nn, hN.ins (i := N.length) (Nat.le_refl _) (by rw [if_neg (by omega), show pvO N N.length = none from if_pos (by omega)]; exact hBn) (fun q => by omega) (fun q => by omega) (fun r h1 h2 h3 => va_up_ne _ _ h1), vx100.rf.up hB, by rw [llE_ins (Nat.le_refl _), if_pos (by omega), if_pos (by omega)]⟩) ⟨Nat.le_of_ble_eq_true rfl, Nat.le_of_ble_eq_true rfl⟩ dJ41_linkLast_58
  · have ehd : hdO N = some (nA N 0) := if_pos h0
    have etl : tlO N = some (nA N (N.length - 1)) := if_pos h0
    rw [ehd, etl] at hG
    have hG : gW X F V ((ll, oB 27 [.int (zI mo), .int (zI (N.length : Int)), .ref (nA N 0), .ref (nA N (N.length - 1))]) :: Z) s _ _ := hG
    refine lv_aload_n hx hb dJ41_linkLast_0 rfl (lv_at hl 0 rfl) ?_
    refine g_get (ci := 27) hx hb hts in_J41 hown hG (hG.at 0 rfl) rfl 3 (Nat.le_of_ble_eq_true rfl) (hts _ q2510) (fun _ h9 => h9) rfl dJ41_linkLast_1 ?_
    refine lv_astore_n (lv' := [(2, .ref (nA N (N.length - 1))), (0, .ref ll), (1, .ref e9)]) hx hb dJ41_linkLast_4 rfl hl (by decide) rfl (fun ls hl => ?_)
    refine g_new (ci := 28) hx hb hts in_J28 tyJ28 tyJ28_ok hown (hts _ q1220) (hts _ q1221) (hts _ q131) hG rfl (fs := [.null, .null, .null]) rfl ⟨Nat.le_of_ble_eq_true rfl, Nat.le_of_ble_eq_true rfl⟩ dJ41_linkLast_5 (fun nn H (hG : gW X F V ((nn, oB 28 [.null, .null, .null]) :: (ll, oB 27 [.int (zI mo), .int (zI (N.length : Int)), .ref (nA N 0), .ref (nA N (N.length - 1))]) :: Z) s H _) => ?_)
    refine lv_dup hx hb dJ41_linkLast_8 rfl ?_
    refine lv_aload_n hx hb dJ41_linkLast_9 rfl (lv_at hl 0 rfl) ?_
    refine lv_aload_n hx hb dJ41_linkLast_10 rfl (lv_at hl 2 rfl) ?_
    refine lv_null hx hb dJ41_linkLast_11 ?_
    refine g_cv (va_runI (As := [.ref (nA N (N.length - 1)), .ref e9, .null]) (rest := [.ref nn]) ⟨hx, hb, hml, hown, hts⟩ (metJ28_init (pv := (some (nA N (N.length - 1)))) (nx := none)) (cwI 3 hts (lw_meth q1224) rfl rfl rfl (hts _ q131) (hts _ q1222) (hts _ q1223) rfl (by decide +kernel) ⟨Nat.le_of_ble_eq_true rfl, Nat.le_of_ble_eq_true rfl⟩) (g_preS hG) rfl rfl hl.1 rfl (lv_room (Nat.le_of_ble_eq_true rfl)) dJ41_linkLast_12 ⟨Nat.le_of_ble_eq_true rfl, Nat.le_of_ble_eq_true rfl⟩) hG (fun F_5 V_6 ws_ H locs hp hG => ?_)
    obtain ⟨rfl, rfl, rfl⟩ := hp
    have hG : gW X F V ((nn, oB 28 [.ref e9, .null, .ref (nA N (N.length - 1))]) :: (ll, oB 27 [.int (zI mo), .int (zI (N.length : Int)), .ref (nA N 0), .ref (nA N (N.length - 1))]) :: Z) s H locs := hG
    have hnd := hN.2.2.2 (N.length - 1) (by omega)
    have hrb7 := hN.2.1 (N.length - 1) (by omega)
    rw [show nxO N (N.length - 1) = none from if_neg (by omega)] at hnd
    have hnd : V (nR N (N.length - 1)) = some (nA N (N.length - 1), oB 28 [.ref (nT N (N.length - 1)), .null, va_rf (pvO N (N.length - 1))]) := hnd
    have hG := hG.toV B
    have hnd : (va_up V B (some (nn, oB 28 [.ref e9, .null, .ref (nA N (N.length - 1))]))) (nR N (N.length - 1)) = some ((nA N (N.length - 1)), oB 28 [.ref (nT N (N.length - 1)), .null, va_rf (pvO N (N.length - 1))]) := (vun (by omega)).trans hnd
    have hBn : (va_up V B (some (nn, oB 28 [.ref e9, .null, .ref (nA N (N.length - 1))]))) B = some (nn, oB 28 [.ref e9, .null, .ref (nA N (N.length - 1))]) := vus
    have hG : gW X F (va_up V B (some (nn, oB 28 [.ref e9, .null, .ref (nA N (N.length - 1))]))) ((ll, oB 27 [.int (zI mo), .int (zI (N.length : Int)), .ref (nA N 0), .ref (nA N (N.length - 1))]) :: Z) s _ _ := hG
    refine lv_astore_n (lv' := [(3, .ref nn), (2, .ref (nA N (N.length - 1))), (0, .ref ll), (1, .ref e9)]) hx hb dJ41_linkLast_15 rfl hl (by decide) rfl (fun ls hl => ?_)
    refine lv_aload_n hx hb dJ41_linkLast_16 rfl (lv_at hl 2 rfl) ?_
    refine lv_aload_n hx hb dJ41_linkLast_17 rfl (lv_at hl 0 rfl) ?_
    refine g_put (ci := 27) hx hb hts in_J41 tyJ41 tyJ41_ok nmJ41 hown hG 0 rfl rfl 3 (Nat.le_of_ble_eq_true rfl) (hts _ q2510) (fun _ h9 => h9) rfl (tyJ41_ok 3 (Nat.le_of_ble_eq_true rfl)) rfl rfl (Nat.le_of_ble_eq_true rfl) dJ41_linkLast_18 (fun H locs (hG : gW X F (va_up V B (some (nn, oB 28 [.ref e9, .null, .ref (nA N (N.length - 1))]))) ((ll, oB 27 [.int (zI mo), .int (zI (N.length : Int)), .ref (nA N 0), .ref nn]) :: Z) s H locs) => ?_)
    refine lv_aload_n hx hb dJ41_linkLast_21 rfl (lv_at hl 1 rfl) ?_
    refine lv_ifnonnull (tgt := 33) hx hb dJ41_linkLast_22 (by decide) ?_
    refine lv_aload_n hx hb dJ41_linkLast_33 rfl (lv_at hl 1 rfl) ?_
    refine lv_aload_n hx hb dJ41_linkLast_34 rfl (lv_at hl 0 rfl) ?_
    refine g_putV (ci := 28) hx hb hts in_J28 tyJ28 tyJ28_ok nmJ28 hown hG hnd rfl 1 (Nat.le_of_ble_eq_true rfl) (hts _ q1231) (fun _ h9 => h9) rfl (tyJ28_ok 1 (Nat.le_of_ble_eq_true rfl)) rfl rfl (Nat.le_of_ble_eq_true rfl) dJ41_linkLast_35 (fun H locs (hG : gW X F (va_up (va_up V B (some (nn, oB 28 [.ref e9, .null, .ref (nA N (N.length - 1))]))) (nR N (N.length - 1)) (some ((nA N (N.length - 1)), oB 28 [.ref (nT N (N.length - 1)), .ref nn, va_rf (pvO N (N.length - 1))]))) ((ll, oB 27 [.int (zI mo), .int (zI (N.length : Int)), .ref (nA N 0), .ref nn]) :: Z) s H locs) => ?_)
    have hnd : (va_up (va_up V B (some (nn, oB 28 [.ref e9, .null, .ref (nA N (N.length - 1))]))) (nR N (N.length - 1)) (some ((nA N (N.length - 1)), oB 28 [.ref (nT N (N.length - 1)), .ref nn, va_rf (pvO N (N.length - 1))]))) (nR N (N.length - 1)) = some ((nA N (N.length - 1)), oB 28 [.ref (nT N (N.length - 1)), .ref nn, va_rf (pvO N (N.length - 1))]) := vus
    have hBn : (va_up (va_up V B (some (nn, oB 28 [.ref e9, .null, .ref (nA N (N.length - 1))]))) (nR N (N.length - 1)) (some ((nA N (N.length - 1)), oB 28 [.ref (nT N (N.length - 1)), .ref nn, va_rf (pvO N (N.length - 1))]))) B = some (nn, oB 28 [.ref e9, .null, .ref (nA N (N.length - 1))]) := (vun (by omega)).trans hBn
    refine lv_aload_n hx hb dJ41_linkLast_38 rfl (lv_at hl 2 rfl) ?_
    refine lv_dup hx hb dJ41_linkLast_39 rfl ?_
    refine g_get (ci := 27) hx hb hts in_J41 hown hG (hG.at 0 rfl) rfl 1 (Nat.le_of_ble_eq_true rfl) (hts _ q2507) (fun _ h9 => h9) rfl dJ41_linkLast_40 ?_
    refine lv_iconst (v := zI 1) hx hb dJ41_linkLast_43 (by decide +kernel) ?_
    refine g_iadd hx hb dJ41_linkLast_44 ?_
    refine g_put (ci := 27) hx hb hts in_J41 tyJ41 tyJ41_ok nmJ41 hown hG 0 rfl rfl 1 (Nat.le_of_ble_eq_true rfl) (hts _ q2507) (fun _ h9 => h9) rfl (tyJ41_ok 1 (Nat.le_of_ble_eq_true rfl)) rfl rfl (Nat.le_of_ble_eq_true rfl) dJ41_linkLast_45 (fun H locs (hG : gW X F (va_up (va_up V B (some (nn, oB 28 [.ref e9, .null, .ref (nA N (N.length - 1))]))) (nR N (N.length - 1)) (some ((nA N (N.length - 1)), oB 28 [.ref (nT N (N.length - 1)), .ref nn, va_rf (pvO N (N.length - 1))]))) ((ll, oB 27 [.int (zI mo), .int (zI ((N.length : Int) + 1)), .ref (nA N 0), .ref nn]) :: Z) s H locs) => ?_)
    refine lv_aload_n hx hb dJ41_linkLast_48 rfl (lv_at hl 2 rfl) ?_
    refine lv_dup hx hb dJ41_linkLast_49 rfl ?_
    refine g_get (ci := 27) hx hb hts in_J41 hown hG (hG.at 0 rfl) rfl 0 (Nat.le_of_ble_eq_true rfl) (hts _ q772) (u_same (hts _ q768)) rfl dJ41_linkLast_50 ?_
    refine lv_iconst (v := zI 1) hx hb dJ41_linkLast_53 (by decide +kernel) ?_
    refine g_iadd hx hb dJ41_linkLast_54 ?_
    refine g_put (ci := 27) hx hb hts in_J41 tyJ41 tyJ41_ok nmJ41 hown hG 0 rfl rfl 0 (Nat.le_of_ble_eq_true rfl) (hts _ q772) (u_same (hts _ q768)) rfl (tyJ41_ok 0 (Nat.le_of_ble_eq_true rfl)) rfl rfl (Nat.le_of_ble_eq_true rfl) dJ41_linkLast_55 (fun H locs (hG : gW X F (va_up (va_up V B (some (nn, oB 28 [.ref e9, .null, .ref (nA N (N.length - 1))]))) (nR N (N.length - 1)) (some ((nA N (N.length - 1)), oB 28 [.ref (nT N (N.length - 1)), .ref nn, va_rf (pvO N (N.length - 1))]))) ((ll, oB 27 [.int (zI (mo + 1)), .int (zI ((N.length : Int) + 1)), .ref (nA N 0), .ref nn]) :: Z) s H locs) => ?_)
    exact g_vret hx hb hr hlocks hG (⟨rfl, nn, hN.ins (i := N.length) (Nat.le_refl _) (by rw [if_neg (Nat.lt_irrefl _), show pvO N N.length = some (nA N (N.length - 1)) from if_neg (by omega)]; exact hBn) (fun _ => hnd) (fun q => absurd q (Nat.lt_irrefl _)) (fun r h1 h2 h3 => (va_up_ne _ _ (h2 h0)).trans (va_up_ne _ _ h1)), (vx100.rf.up hB).up (by omega), by rw [llE_ins (Nat.le_refl _), if_neg (by omega), if_pos rfl]⟩) ⟨Nat.le_of_ble_eq_true rfl, Nat.le_of_ble_eq_true rfl⟩ dJ41_linkLast_58

set_option maxHeartbeats 4000000 in
theorem metJ41_linkFirst {l : Launch} {X : gX} {F : gF} {V : gV} {Z : va_W} {e9 ll B : Nat} {mo : Int} {N : List Nd} (hN : llN V B N) (h24 : N.length ≤ 1000) : Met l yJ41_linkFirst (ws_ yJ41_linkFirst cJ41_linkFirst 4 none) ({ frames := 2, cells := 1, slots := 3, locals := 43 }) (gP X F V ((ll, oB 27 [.int (zI mo), .int (zI (N.length : Int)), va_rf (hdO N), va_rf (tlO N)]) :: Z) [.ref ll, .ref e9]) (gQv X (fun G U ws => F = G ∧ ∃ a9 : Nat, llN U (B + 1) (insN N 0 (B, a9, e9)) ∧ vx100 V U ∧ ((ll, llE (mo + 1) (insN N 0 (B, a9, e9))) :: Z) = ws)) 1 3 (gA X) := by
  refine Met.g (by decide) (Nat.le_of_ble_eq_true rfl) ?_
  intro p e s m below meth c ls hx hb hr hts hown hlocks hml hin hG hl
  have hl : lv_has ls 4 [(0, .ref ll), (1, .ref e9)] := hl
  have hB := hN.1
  rcases Nat.eq_zero_or_pos N.length with h0 | h0
  · have ehd : hdO N = none := if_neg (by omega)
    have etl : tlO N = none := if_neg (by omega)
    rw [ehd, etl] at hG
    have hG : gW X F V ((ll, oB 27 [.int (zI mo), .int (zI (N.length : Int)), .null, .null]) :: Z) s _ _ := hG
    refine lv_aload_n hx hb dJ41_linkFirst_0 rfl (lv_at hl 0 rfl) ?_
    refine g_get (ci := 27) hx hb hts in_J41 hown hG (hG.at 0 rfl) rfl 2 (Nat.le_of_ble_eq_true rfl) (hts _ q2509) (fun _ h9 => h9) rfl dJ41_linkFirst_1 ?_
    refine lv_astore_nN (lv' := [(2, .null), (0, .ref ll), (1, .ref e9)]) hx hb dJ41_linkFirst_4 rfl hl (by decide) rfl (fun ls hl => ?_)
    refine g_new (ci := 28) hx hb hts in_J28 tyJ28 tyJ28_ok hown (hts _ q1220) (hts _ q1221) (hts _ q131) hG rfl (fs := [.null, .null, .null]) rfl ⟨Nat.le_of_ble_eq_true rfl, Nat.le_of_ble_eq_true rfl⟩ dJ41_linkFirst_5 (fun nn H (hG : gW X F V ((nn, oB 28 [.null, .null, .null]) :: (ll, oB 27 [.int (zI mo), .int (zI (N.length : Int)), .null, .null]) :: Z) s H _) => ?_)
    refine lv_dup hx hb dJ41_linkFirst_8 rfl ?_
    refine lv_null hx hb dJ41_linkFirst_9 ?_
    refine lv_aload_n hx hb dJ41_linkFirst_10 rfl (lv_at hl 2 rfl) ?_
    refine lv_aload_nN hx hb dJ41_linkFirst_11 rfl (lv_at hl 0 rfl) ?_
    refine g_cv (va_runI (As := [.null, .ref e9, .null]) (rest := [.ref nn]) ⟨hx, hb, hml, hown, hts⟩ (metJ28_init (pv := none) (nx := none)) (cwI 3 hts (lw_meth q1224) rfl rfl rfl (hts _ q131) (hts _ q1222) (hts _ q1223) rfl (by decide +kernel) ⟨Nat.le_of_ble_eq_true rfl, Nat.le_of_ble_eq_true rfl⟩) (g_preS hG) rfl rfl hl.1 rfl (lv_room (Nat.le_of_ble_eq_true rfl)) dJ41_linkFirst_12 ⟨Nat.le_of_ble_eq_true rfl, Nat.le_of_ble_eq_true rfl⟩) hG (fun F_2 V_3 ws_ H locs hp hG => ?_)
    obtain ⟨rfl, rfl, rfl⟩ := hp
    have hG : gW X F V ((nn, oB 28 [.ref e9, .null, .null]) :: (ll, oB 27 [.int (zI mo), .int (zI (N.length : Int)), .null, .null]) :: Z) s H locs := hG
    have hG := hG.toV B
    have hBn : (va_up V B (some (nn, oB 28 [.ref e9, .null, .null]))) B = some (nn, oB 28 [.ref e9, .null, .null]) := vus
    have hG : gW X F (va_up V B (some (nn, oB 28 [.ref e9, .null, .null]))) ((ll, oB 27 [.int (zI mo), .int (zI (N.length : Int)), .null, .null]) :: Z) s _ _ := hG
    refine lv_astore_n (lv' := [(3, .ref nn), (2, .null), (0, .ref ll), (1, .ref e9)]) hx hb dJ41_linkFirst_15 rfl hl (by decide) rfl (fun ls hl => ?_)
    refine lv_aload_n hx hb dJ41_linkFirst_16 rfl (lv_at hl 2 rfl) ?_
    refine lv_aload_n hx hb dJ41_linkFirst_17 rfl (lv_at hl 0 rfl) ?_
    refine g_put (ci := 27) hx hb hts in_J41 tyJ41 tyJ41_ok nmJ41 hown hG 0 rfl rfl 2 (Nat.le_of_ble_eq_true rfl) (hts _ q2509) (fun _ h9 => h9) rfl (tyJ41_ok 2 (Nat.le_of_ble_eq_true rfl)) rfl rfl (Nat.le_of_ble_eq_true rfl) dJ41_linkFirst_18 (fun H locs (hG : gW X F (va_up V B (some (nn, oB 28 [.ref e9, .null, .null]))) ((ll, oB 27 [.int (zI mo), .int (zI (N.length : Int)), .ref nn, .null]) :: Z) s H locs) => ?_)
    refine lv_aload_nN hx hb dJ41_linkFirst_21 rfl (lv_at hl 1 rfl) ?_
    refine lv_ifnonnullN hx hb dJ41_linkFirst_22 ?_
    refine lv_aload_n hx hb dJ41_linkFirst_25 rfl (lv_at hl 2 rfl) ?_
    refine lv_aload_n hx hb dJ41_linkFirst_26 rfl (lv_at hl 0 rfl) ?_
    refine g_put (ci := 27) hx hb hts in_J41 tyJ41 tyJ41_ok nmJ41 hown hG 0 rfl rfl 3 (Nat.le_of_ble_eq_true rfl) (hts _ q2510) (fun _ h9 => h9) rfl (tyJ41_ok 3 (Nat.le_of_ble_eq_true rfl)) rfl rfl (Nat.le_of_ble_eq_true rfl) dJ41_linkFirst_27 (fun H locs (hG : gW X F (va_up V B (some (nn, oB 28 [.ref e9, .null, .null]))) ((ll, oB 27 [.int (zI mo), .int (zI (N.length : Int)), .ref nn, .ref nn]) :: Z) s H locs) => ?_)
    refine lv_goto (tgt := 38) hx hb dJ41_linkFirst_30 (by decide) ?_
    refine lv_aload_n hx hb dJ41_linkFirst_38 rfl (lv_at hl 2 rfl) ?_
    refine lv_dup hx hb dJ41_linkFirst_39 rfl ?_
    refine g_get (ci := 27) hx hb hts in_J41 hown hG (hG.at 0 rfl) rfl 1 (Nat.le_of_ble_eq_true rfl) (hts _ q2507) (fun _ h9 => h9) rfl dJ41_linkFirst_40 ?_
    refine lv_iconst (v := zI 1) hx hb dJ41_linkFirst_43 (by decide +kernel) ?_
    refine g_iadd hx hb dJ41_linkFirst_44 ?_
    refine g_put (ci := 27) hx hb hts in_J41 tyJ41 tyJ41_ok nmJ41 hown hG 0 rfl rfl 1 (Nat.le_of_ble_eq_true rfl) (hts _ q2507) (fun _ h9 => h9) rfl (tyJ41_ok 1 (Nat.le_of_ble_eq_true rfl)) rfl rfl (Nat.le_of_ble_eq_true rfl) dJ41_linkFirst_45 (fun H locs (hG : gW X F (va_up V B (some (nn, oB 28 [.ref e9, .null, .null]))) ((ll, oB 27 [.int (zI mo), .int (zI ((N.length : Int) + 1)), .ref nn, .ref nn]) :: Z) s H locs) => ?_)
    refine lv_aload_n hx hb dJ41_linkFirst_48 rfl (lv_at hl 2 rfl) ?_
    refine lv_dup hx hb dJ41_linkFirst_49 rfl ?_
    refine g_get (ci := 27) hx hb hts in_J41 hown hG (hG.at 0 rfl) rfl 0 (Nat.le_of_ble_eq_true rfl) (hts _ q772) (u_same (hts _ q768)) rfl dJ41_linkFirst_50 ?_
    refine lv_iconst (v := zI 1) hx hb dJ41_linkFirst_53 (by decide +kernel) ?_
    refine g_iadd hx hb dJ41_linkFirst_54 ?_
    refine g_put (ci := 27) hx hb hts in_J41 tyJ41 tyJ41_ok nmJ41 hown hG 0 rfl rfl 0 (Nat.le_of_ble_eq_true rfl) (hts _ q772) (u_same (hts _ q768)) rfl (tyJ41_ok 0 (Nat.le_of_ble_eq_true rfl)) rfl rfl (Nat.le_of_ble_eq_true rfl) dJ41_linkFirst_55 (fun H locs (hG : gW X F (va_up V B (some (nn, oB 28 [.ref e9, .null, .null]))) ((ll, oB 27 [.int (zI (mo + 1)), .int (zI ((N.length : Int) + 1)), .ref nn, .ref nn]) :: Z) s H locs) => ?_)
    exact g_vret hx hb hr hlocks hG (⟨rfl, nn, hN.ins (i := 0) (Nat.zero_le _) (by rw [if_neg (by omega), show pvO N 0 = none from if_pos (by omega)]; exact hBn) (fun q => by omega) (fun q => by omega) (fun r h1 h2 h3 => va_up_ne _ _ h1), vx100.rf.up hB, by rw [llE_ins (Nat.zero_le _), if_pos (by omega), if_pos (by omega)]⟩) ⟨Nat.le_of_ble_eq_true rfl, Nat.le_of_ble_eq_true rfl⟩ dJ41_linkFirst_58
  · have ehd : hdO N = some (nA N 0) := if_pos h0
    have etl : tlO N = some (nA N (N.length - 1)) := if_pos h0
    rw [ehd, etl] at hG
    have hG : gW X F V ((ll, oB 27 [.int (zI mo), .int (zI (N.length : Int)), .ref (nA N 0), .ref (nA N (N.length - 1))]) :: Z) s _ _ := hG
    refine lv_aload_n hx hb dJ41_linkFirst_0 rfl (lv_at hl 0 rfl) ?_
    refine g_get (ci := 27) hx hb hts in_J41 hown hG (hG.at 0 rfl) rfl 2 (Nat.le_of_ble_eq_true rfl) (hts _ q2509) (fun _ h9 => h9) rfl dJ41_linkFirst_1 ?_
    refine lv_astore_n (lv' := [(2, .ref (nA N 0)), (0, .ref ll), (1, .ref e9)]) hx hb dJ41_linkFirst_4 rfl hl (by decide) rfl (fun ls hl => ?_)
    refine g_new (ci := 28) hx hb hts in_J28 tyJ28 tyJ28_ok hown (hts _ q1220) (hts _ q1221) (hts _ q131) hG rfl (fs := [.null, .null, .null]) rfl ⟨Nat.le_of_ble_eq_true rfl, Nat.le_of_ble_eq_true rfl⟩ dJ41_linkFirst_5 (fun nn H (hG : gW X F V ((nn, oB 28 [.null, .null, .null]) :: (ll, oB 27 [.int (zI mo), .int (zI (N.length : Int)), .ref (nA N 0), .ref (nA N (N.length - 1))]) :: Z) s H _) => ?_)
    refine lv_dup hx hb dJ41_linkFirst_8 rfl ?_
    refine lv_null hx hb dJ41_linkFirst_9 ?_
    refine lv_aload_n hx hb dJ41_linkFirst_10 rfl (lv_at hl 2 rfl) ?_
    refine lv_aload_n hx hb dJ41_linkFirst_11 rfl (lv_at hl 0 rfl) ?_
    refine g_cv (va_runI (As := [.null, .ref e9, .ref (nA N 0)]) (rest := [.ref nn]) ⟨hx, hb, hml, hown, hts⟩ (metJ28_init (pv := none) (nx := (some (nA N 0)))) (cwI 3 hts (lw_meth q1224) rfl rfl rfl (hts _ q131) (hts _ q1222) (hts _ q1223) rfl (by decide +kernel) ⟨Nat.le_of_ble_eq_true rfl, Nat.le_of_ble_eq_true rfl⟩) (g_preS hG) rfl rfl hl.1 rfl (lv_room (Nat.le_of_ble_eq_true rfl)) dJ41_linkFirst_12 ⟨Nat.le_of_ble_eq_true rfl, Nat.le_of_ble_eq_true rfl⟩) hG (fun F_5 V_6 ws_ H locs hp hG => ?_)
    obtain ⟨rfl, rfl, rfl⟩ := hp
    have hG : gW X F V ((nn, oB 28 [.ref e9, .ref (nA N 0), .null]) :: (ll, oB 27 [.int (zI mo), .int (zI (N.length : Int)), .ref (nA N 0), .ref (nA N (N.length - 1))]) :: Z) s H locs := hG
    have hnd := hN.2.2.2 0 (by omega)
    have hrb7 := hN.2.1 0 (by omega)
    rw [show pvO N 0 = none from if_pos rfl] at hnd
    have hnd : V (nR N 0) = some (nA N 0, oB 28 [.ref (nT N 0), va_rf (nxO N 0), .null]) := hnd
    have hG := hG.toV B
    have hnd : (va_up V B (some (nn, oB 28 [.ref e9, .ref (nA N 0), .null]))) (nR N 0) = some ((nA N 0), oB 28 [.ref (nT N 0), va_rf (nxO N 0), .null]) := (vun (by omega)).trans hnd
    have hBn : (va_up V B (some (nn, oB 28 [.ref e9, .ref (nA N 0), .null]))) B = some (nn, oB 28 [.ref e9, .ref (nA N 0), .null]) := vus
    have hG : gW X F (va_up V B (some (nn, oB 28 [.ref e9, .ref (nA N 0), .null]))) ((ll, oB 27 [.int (zI mo), .int (zI (N.length : Int)), .ref (nA N 0), .ref (nA N (N.length - 1))]) :: Z) s _ _ := hG
    refine lv_astore_n (lv' := [(3, .ref nn), (2, .ref (nA N 0)), (0, .ref ll), (1, .ref e9)]) hx hb dJ41_linkFirst_15 rfl hl (by decide) rfl (fun ls hl => ?_)
    refine lv_aload_n hx hb dJ41_linkFirst_16 rfl (lv_at hl 2 rfl) ?_
    refine lv_aload_n hx hb dJ41_linkFirst_17 rfl (lv_at hl 0 rfl) ?_
    refine g_put (ci := 27) hx hb hts in_J41 tyJ41 tyJ41_ok nmJ41 hown hG 0 rfl rfl 2 (Nat.le_of_ble_eq_true rfl) (hts _ q2509) (fun _ h9 => h9) rfl (tyJ41_ok 2 (Nat.le_of_ble_eq_true rfl)) rfl rfl (Nat.le_of_ble_eq_true rfl) dJ41_linkFirst_18 (fun H locs (hG : gW X F (va_up V B (some (nn, oB 28 [.ref e9, .ref (nA N 0), .null]))) ((ll, oB 27 [.int (zI mo), .int (zI (N.length : Int)), .ref nn, .ref (nA N (N.length - 1))]) :: Z) s H locs) => ?_)
    refine lv_aload_n hx hb dJ41_linkFirst_21 rfl (lv_at hl 1 rfl) ?_
    refine lv_ifnonnull (tgt := 33) hx hb dJ41_linkFirst_22 (by decide) ?_
    refine lv_aload_n hx hb dJ41_linkFirst_33 rfl (lv_at hl 1 rfl) ?_
    refine lv_aload_n hx hb dJ41_linkFirst_34 rfl (lv_at hl 0 rfl) ?_
    refine g_putV (ci := 28) hx hb hts in_J28 tyJ28 tyJ28_ok nmJ28 hown hG hnd rfl 2 (Nat.le_of_ble_eq_true rfl) (hts _ q1233) (fun _ h9 => h9) rfl (tyJ28_ok 2 (Nat.le_of_ble_eq_true rfl)) rfl rfl (Nat.le_of_ble_eq_true rfl) dJ41_linkFirst_35 (fun H locs (hG : gW X F (va_up (va_up V B (some (nn, oB 28 [.ref e9, .ref (nA N 0), .null]))) (nR N 0) (some ((nA N 0), oB 28 [.ref (nT N 0), va_rf (nxO N 0), .ref nn]))) ((ll, oB 27 [.int (zI mo), .int (zI (N.length : Int)), .ref nn, .ref (nA N (N.length - 1))]) :: Z) s H locs) => ?_)
    have hnd : (va_up (va_up V B (some (nn, oB 28 [.ref e9, .ref (nA N 0), .null]))) (nR N 0) (some ((nA N 0), oB 28 [.ref (nT N 0), va_rf (nxO N 0), .ref nn]))) (nR N 0) = some ((nA N 0), oB 28 [.ref (nT N 0), va_rf (nxO N 0), .ref nn]) := vus
    have hBn : (va_up (va_up V B (some (nn, oB 28 [.ref e9, .ref (nA N 0), .null]))) (nR N 0) (some ((nA N 0), oB 28 [.ref (nT N 0), va_rf (nxO N 0), .ref nn]))) B = some (nn, oB 28 [.ref e9, .ref (nA N 0), .null]) := (vun (by omega)).trans hBn
    refine lv_aload_n hx hb dJ41_linkFirst_38 rfl (lv_at hl 2 rfl) ?_
    refine lv_dup hx hb dJ41_linkFirst_39 rfl ?_
    refine g_get (ci := 27) hx hb hts in_J41 hown hG (hG.at 0 rfl) rfl 1 (Nat.le_of_ble_eq_true rfl) (hts _ q2507) (fun _ h9 => h9) rfl dJ41_linkFirst_40 ?_
    refine lv_iconst (v := zI 1) hx hb dJ41_linkFirst_43 (by decide +kernel) ?_
    refine g_iadd hx hb dJ41_linkFirst_44 ?_
    refine g_put (ci := 27) hx hb hts in_J41 tyJ41 tyJ41_ok nmJ41 hown hG 0 rfl rfl 1 (Nat.le_of_ble_eq_true rfl) (hts _ q2507) (fun _ h9 => h9) rfl (tyJ41_ok 1 (Nat.le_of_ble_eq_true rfl)) rfl rfl (Nat.le_of_ble_eq_true rfl) dJ41_linkFirst_45 (fun H locs (hG : gW X F (va_up (va_up V B (some (nn, oB 28 [.ref e9, .ref (nA N 0), .null]))) (nR N 0) (some ((nA N 0), oB 28 [.ref (nT N 0), va_rf (nxO N 0), .ref nn]))) ((ll, oB 27 [.int (zI mo), .int (zI ((N.length : Int) + 1)), .ref nn, .ref (nA N (N.length - 1))]) :: Z) s H locs) => ?_)
    refine lv_aload_n hx hb dJ41_linkFirst_48 rfl (lv_at hl 2 rfl) ?_
    refine lv_dup hx hb dJ41_linkFirst_49 rfl ?_
    refine g_get (ci := 27) hx hb hts in_J41 hown hG (hG.at 0 rfl) rfl 0 (Nat.le_of_ble_eq_true rfl) (hts _ q772) (u_same (hts _ q768)) rfl dJ41_linkFirst_50 ?_
    refine lv_iconst (v := zI 1) hx hb dJ41_linkFirst_53 (by decide +kernel) ?_
    refine g_iadd hx hb dJ41_linkFirst_54 ?_
    refine g_put (ci := 27) hx hb hts in_J41 tyJ41 tyJ41_ok nmJ41 hown hG 0 rfl rfl 0 (Nat.le_of_ble_eq_true rfl) (hts _ q772) (u_same (hts _ q768)) rfl (tyJ41_ok 0 (Nat.le_of_ble_eq_true rfl)) rfl rfl (Nat.le_of_ble_eq_true rfl) dJ41_linkFirst_55 (fun H locs (hG : gW X F (va_up (va_up V B (some (nn, oB 28 [.ref e9, .ref (nA N 0), .null]))) (nR N 0) (some ((nA N 0), oB 28 [.ref (nT N 0), va_rf (nxO N 0), .ref nn]))) ((ll, oB 27 [.int (zI (mo + 1)), .int (zI ((N.length : Int) + 1)), .ref nn, .ref (nA N (N.length - 1))]) :: Z) s H locs) => ?_)
    exact g_vret hx hb hr hlocks hG (⟨rfl, nn, hN.ins (i := 0) (Nat.zero_le _) (by rw [if_pos h0, show pvO N 0 = none from if_pos rfl]; exact hBn) (fun q => absurd q (Nat.lt_irrefl _)) (fun _ => hnd) (fun r h1 h2 h3 => (va_up_ne _ _ (h3 h0)).trans (va_up_ne _ _ h1)), (vx100.rf.up hB).up (by omega), by rw [llE_ins (Nat.zero_le _), if_pos rfl, if_neg (by omega)]⟩) ⟨Nat.le_of_ble_eq_true rfl, Nat.le_of_ble_eq_true rfl⟩ dJ41_linkFirst_58

set_option maxHeartbeats 4000000 in
theorem metJ41_linkBefore {l : Launch} {X : gX} {F : gF} {V : gV} {Z : va_W} {e9 i ll B : Nat} {mo : Int} {N : List Nd} (hN : llN V B N) (h24 : N.length ≤ 1000) (hi : i < N.length) : Met l yJ41_linkBefore (ws_ yJ41_linkBefore cJ41_linkBefore 5 none) ({ frames := 2, cells := 1, slots := 3, locals := 43 }) (gP X F V ((ll, oB 27 [.int (zI mo), .int (zI (N.length : Int)), va_rf (hdO N), va_rf (tlO N)]) :: Z) [.ref ll, .ref e9, .ref (nA N i)]) (gQv X (fun G U ws => F = G ∧ ∃ a9 : Nat, llN U (B + 1) (insN N i (B, a9, e9)) ∧ vx100 V U ∧ ((ll, llE (mo + 1) (insN N i (B, a9, e9))) :: Z) = ws)) 1 3 (gA X) := by
  refine Met.g (by decide) (Nat.le_of_ble_eq_true rfl) ?_
  intro p e s m below meth c ls hx hb hr hts hown hlocks hml hin hG hl
  have hl : lv_has ls 5 [(0, .ref ll), (1, .ref e9), (2, .ref (nA N i))] := hl
  have hB := hN.1
  have h0 : 0 < N.length := by omega
  have ehd : hdO N = some (nA N 0) := if_pos h0
  have etl : tlO N = some (nA N (N.length - 1)) := if_pos h0
  rw [ehd, etl] at hG
  have hG : gW X F V ((ll, oB 27 [.int (zI mo), .int (zI (N.length : Int)), .ref (nA N 0), .ref (nA N (N.length - 1))]) :: Z) s _ _ := hG
  rcases Nat.eq_zero_or_pos i with hi0 | hi0
  · have hnd := hN.2.2.2 i (by omega)
    have hrb1 := hN.2.1 i (by omega)
    rw [show pvO N i = none from if_pos hi0] at hnd
    have hnd : V (nR N i) = some (nA N i, oB 28 [.ref (nT N i), va_rf (nxO N i), .null]) := hnd
    refine lv_aload_n hx hb dJ41_linkBefore_0 rfl (lv_at hl 2 rfl) ?_
    refine g_get (ci := 28) hx hb hts in_J28 hown hG (hG.vo hnd) rfl 2 (Nat.le_of_ble_eq_true rfl) (hts _ q1233) (fun _ h9 => h9) rfl dJ41_linkBefore_1 ?_
    refine lv_astore_nN (lv' := [(3, .null), (0, .ref ll), (1, .ref e9), (2, .ref (nA N i))]) hx hb dJ41_linkBefore_4 rfl hl (by decide) rfl (fun ls hl => ?_)
    refine g_new (ci := 28) hx hb hts in_J28 tyJ28 tyJ28_ok hown (hts _ q1220) (hts _ q1221) (hts _ q131) hG rfl (fs := [.null, .null, .null]) rfl ⟨Nat.le_of_ble_eq_true rfl, Nat.le_of_ble_eq_true rfl⟩ dJ41_linkBefore_5 (fun nn H (hG : gW X F V ((nn, oB 28 [.null, .null, .null]) :: (ll, oB 27 [.int (zI mo), .int (zI (N.length : Int)), .ref (nA N 0), .ref (nA N (N.length - 1))]) :: Z) s H _) => ?_)
    refine lv_dup hx hb dJ41_linkBefore_8 rfl ?_
    refine lv_aload_nN hx hb dJ41_linkBefore_9 rfl (lv_at hl 0 rfl) ?_
    refine lv_aload_n hx hb dJ41_linkBefore_10 rfl (lv_at hl 2 rfl) ?_
    refine lv_aload_n hx hb dJ41_linkBefore_11 rfl (lv_at hl 3 rfl) ?_
    refine g_cv (va_runI (As := [.null, .ref e9, .ref (nA N i)]) (rest := [.ref nn]) ⟨hx, hb, hml, hown, hts⟩ (metJ28_init (pv := none) (nx := some (nA N i))) (cwI 3 hts (lw_meth q1224) rfl rfl rfl (hts _ q131) (hts _ q1222) (hts _ q1223) rfl (by decide +kernel) ⟨Nat.le_of_ble_eq_true rfl, Nat.le_of_ble_eq_true rfl⟩) (g_preS hG) rfl rfl hl.1 rfl (lv_room (Nat.le_of_ble_eq_true rfl)) dJ41_linkBefore_12 ⟨Nat.le_of_ble_eq_true rfl, Nat.le_of_ble_eq_true rfl⟩) hG (fun F_3 V_4 ws_ H locs hp hG => ?_)
    obtain ⟨rfl, rfl, rfl⟩ := hp
    have hG : gW X F V ((nn, oB 28 [.ref e9, .ref (nA N i), .null]) :: (ll, oB 27 [.int (zI mo), .int (zI (N.length : Int)), .ref (nA N 0), .ref (nA N (N.length - 1))]) :: Z) s H locs := hG
    have hG := hG.toV B
    have hnd : (va_up V B (some (nn, oB 28 [.ref e9, .ref (nA N i), .null]))) (nR N i) = some ((nA N i), oB 28 [.ref (nT N i), va_rf (nxO N i), .null]) := (vun (by omega)).trans hnd
    have hBn : (va_up V B (some (nn, oB 28 [.ref e9, .ref (nA N i), .null]))) B = some (nn, oB 28 [.ref e9, .ref (nA N i), .null]) := vus
    have hG : gW X F (va_up V B (some (nn, oB 28 [.ref e9, .ref (nA N i), .null]))) ((ll, oB 27 [.int (zI mo), .int (zI (N.length : Int)), .ref (nA N 0), .ref (nA N (N.length - 1))]) :: Z) s _ _ := hG
    refine lv_astore (lv' := [(4, .ref nn), (3, .null), (0, .ref ll), (1, .ref e9), (2, .ref (nA N i))]) hx hb dJ41_linkBefore_15 hl (by decide) rfl (fun ls hl => ?_)
    refine lv_aload_n hx hb dJ41_linkBefore_17 rfl (lv_at hl 4 rfl) ?_
    refine lv_aload hx hb dJ41_linkBefore_18 (lv_at hl 0 rfl) ?_
    refine g_putV (ci := 28) hx hb hts in_J28 tyJ28 tyJ28_ok nmJ28 hown hG hnd rfl 2 (Nat.le_of_ble_eq_true rfl) (hts _ q1233) (fun _ h9 => h9) rfl (tyJ28_ok 2 (Nat.le_of_ble_eq_true rfl)) rfl rfl (Nat.le_of_ble_eq_true rfl) dJ41_linkBefore_20 (fun H locs (hG : gW X F (va_up (va_up V B (some (nn, oB 28 [.ref e9, .ref (nA N i), .null]))) (nR N i) (some ((nA N i), oB 28 [.ref (nT N i), va_rf (nxO N i), .ref nn]))) ((ll, oB 27 [.int (zI mo), .int (zI (N.length : Int)), .ref (nA N 0), .ref (nA N (N.length - 1))]) :: Z) s H locs) => ?_)
    have hnd : (va_up (va_up V B (some (nn, oB 28 [.ref e9, .ref (nA N i), .null]))) (nR N i) (some ((nA N i), oB 28 [.ref (nT N i), va_rf (nxO N i), .ref nn]))) (nR N i) = some ((nA N i), oB 28 [.ref (nT N i), va_rf (nxO N i), .ref nn]) := vus
    have hBn : (va_up (va_up V B (some (nn, oB 28 [.ref e9, .ref (nA N i), .null]))) (nR N i) (some ((nA N i), oB 28 [.ref (nT N i), va_rf (nxO N i), .ref nn]))) B = some (nn, oB 28 [.ref e9, .ref (nA N i), .null]) := (vun (by omega)).trans hBn
    refine lv_aload_nN hx hb dJ41_linkBefore_23 rfl (lv_at hl 1 rfl) ?_
    refine lv_ifnonnullN hx hb dJ41_linkBefore_24 ?_
    refine lv_aload_n hx hb dJ41_linkBefore_27 rfl (lv_at hl 2 rfl) ?_
    refine lv_aload hx hb dJ41_linkBefore_28 (lv_at hl 0 rfl) ?_
    refine g_put (ci := 27) hx hb hts in_J41 tyJ41 tyJ41_ok nmJ41 hown hG 0 rfl rfl 2 (Nat.le_of_ble_eq_true rfl) (hts _ q2509) (fun _ h9 => h9) rfl (tyJ41_ok 2 (Nat.le_of_ble_eq_true rfl)) rfl rfl (Nat.le_of_ble_eq_true rfl) dJ41_linkBefore_30 (fun H locs (hG : gW X F (va_up (va_up V B (some (nn, oB 28 [.ref e9, .ref (nA N i), .null]))) (nR N i) (some ((nA N i), oB 28 [.ref (nT N i), va_rf (nxO N i), .ref nn]))) ((ll, oB 27 [.int (zI mo), .int (zI (N.length : Int)), .ref nn, .ref (nA N (N.length - 1))]) :: Z) s H locs) => ?_)
    refine lv_goto (tgt := 42) hx hb dJ41_linkBefore_33 (by decide) ?_
    refine lv_aload_n hx hb dJ41_linkBefore_42 rfl (lv_at hl 2 rfl) ?_
    refine lv_dup hx hb dJ41_linkBefore_43 rfl ?_
    refine g_get (ci := 27) hx hb hts in_J41 hown hG (hG.at 0 rfl) rfl 1 (Nat.le_of_ble_eq_true rfl) (hts _ q2507) (fun _ h9 => h9) rfl dJ41_linkBefore_44 ?_
    refine lv_iconst (v := zI 1) hx hb dJ41_linkBefore_47 (by decide +kernel) ?_
    refine g_iadd hx hb dJ41_linkBefore_48 ?_
    refine g_put (ci := 27) hx hb hts in_J41 tyJ41 tyJ41_ok nmJ41 hown hG 0 rfl rfl 1 (Nat.le_of_ble_eq_true rfl) (hts _ q2507) (fun _ h9 => h9) rfl (tyJ41_ok 1 (Nat.le_of_ble_eq_true rfl)) rfl rfl (Nat.le_of_ble_eq_true rfl) dJ41_linkBefore_49 (fun H locs (hG : gW X F (va_up (va_up V B (some (nn, oB 28 [.ref e9, .ref (nA N i), .null]))) (nR N i) (some ((nA N i), oB 28 [.ref (nT N i), va_rf (nxO N i), .ref nn]))) ((ll, oB 27 [.int (zI mo), .int (zI ((N.length : Int) + 1)), .ref nn, .ref (nA N (N.length - 1))]) :: Z) s H locs) => ?_)
    refine lv_aload_n hx hb dJ41_linkBefore_52 rfl (lv_at hl 2 rfl) ?_
    refine lv_dup hx hb dJ41_linkBefore_53 rfl ?_
    refine g_get (ci := 27) hx hb hts in_J41 hown hG (hG.at 0 rfl) rfl 0 (Nat.le_of_ble_eq_true rfl) (hts _ q772) (u_same (hts _ q768)) rfl dJ41_linkBefore_54 ?_
    refine lv_iconst (v := zI 1) hx hb dJ41_linkBefore_57 (by decide +kernel) ?_
    refine g_iadd hx hb dJ41_linkBefore_58 ?_
    refine g_put (ci := 27) hx hb hts in_J41 tyJ41 tyJ41_ok nmJ41 hown hG 0 rfl rfl 0 (Nat.le_of_ble_eq_true rfl) (hts _ q772) (u_same (hts _ q768)) rfl (tyJ41_ok 0 (Nat.le_of_ble_eq_true rfl)) rfl rfl (Nat.le_of_ble_eq_true rfl) dJ41_linkBefore_59 (fun H locs (hG : gW X F (va_up (va_up V B (some (nn, oB 28 [.ref e9, .ref (nA N i), .null]))) (nR N i) (some ((nA N i), oB 28 [.ref (nT N i), va_rf (nxO N i), .ref nn]))) ((ll, oB 27 [.int (zI (mo + 1)), .int (zI ((N.length : Int) + 1)), .ref nn, .ref (nA N (N.length - 1))]) :: Z) s H locs) => ?_)
    exact g_vret hx hb hr hlocks hG (⟨rfl, nn, hN.ins (i := i) (by omega) (by rw [if_pos hi, show pvO N i = none from if_pos hi0]; exact hBn) (fun q => by omega) (fun _ => hnd) (fun r h1 h2 h3 => (va_up_ne _ _ (h3 hi)).trans (va_up_ne _ _ h1)), (vx100.rf.up hB).up (by omega), by rw [llE_ins (by omega), if_pos hi0, if_neg (by omega)]⟩) ⟨Nat.le_of_ble_eq_true rfl, Nat.le_of_ble_eq_true rfl⟩ dJ41_linkBefore_62
  · have hne : nR N i ≠ nR N (i - 1) := hN.2.2.1 i (i - 1) hi (by omega) (by omega)
    have hnd := hN.2.2.2 i (by omega)
    have hrb5 := hN.2.1 i (by omega)
    rw [show pvO N i = some (nA N (i - 1)) from if_neg (by omega)] at hnd
    have hnd : V (nR N i) = some (nA N i, oB 28 [.ref (nT N i), va_rf (nxO N i), .ref (nA N (i - 1))]) := hnd
    have hnp := hN.2.2.2 (i - 1) (by omega)
    have hrb6 := hN.2.1 (i - 1) (by omega)
    have hnp : V (nR N (i - 1)) = some (nA N (i - 1), oB 28 [.ref (nT N (i - 1)), va_rf (nxO N (i - 1)), va_rf (pvO N (i - 1))]) := hnp
    refine lv_aload_n hx hb dJ41_linkBefore_0 rfl (lv_at hl 2 rfl) ?_
    refine g_get (ci := 28) hx hb hts in_J28 hown hG (hG.vo hnd) rfl 2 (Nat.le_of_ble_eq_true rfl) (hts _ q1233) (fun _ h9 => h9) rfl dJ41_linkBefore_1 ?_
    refine lv_astore_n (lv' := [(3, .ref (nA N (i - 1))), (0, .ref ll), (1, .ref e9), (2, .ref (nA N i))]) hx hb dJ41_linkBefore_4 rfl hl (by decide) rfl (fun ls hl => ?_)
    refine g_new (ci := 28) hx hb hts in_J28 tyJ28 tyJ28_ok hown (hts _ q1220) (hts _ q1221) (hts _ q131) hG rfl (fs := [.null, .null, .null]) rfl ⟨Nat.le_of_ble_eq_true rfl, Nat.le_of_ble_eq_true rfl⟩ dJ41_linkBefore_5 (fun nn H (hG : gW X F V ((nn, oB 28 [.null, .null, .null]) :: (ll, oB 27 [.int (zI mo), .int (zI (N.length : Int)), .ref (nA N 0), .ref (nA N (N.length - 1))]) :: Z) s H _) => ?_)
    refine lv_dup hx hb dJ41_linkBefore_8 rfl ?_
    refine lv_aload_n hx hb dJ41_linkBefore_9 rfl (lv_at hl 0 rfl) ?_
    refine lv_aload_n hx hb dJ41_linkBefore_10 rfl (lv_at hl 2 rfl) ?_
    refine lv_aload_n hx hb dJ41_linkBefore_11 rfl (lv_at hl 3 rfl) ?_
    refine g_cv (va_runI (As := [.ref (nA N (i - 1)), .ref e9, .ref (nA N i)]) (rest := [.ref nn]) ⟨hx, hb, hml, hown, hts⟩ (metJ28_init (pv := (some (nA N (i - 1)))) (nx := some (nA N i))) (cwI 3 hts (lw_meth q1224) rfl rfl rfl (hts _ q131) (hts _ q1222) (hts _ q1223) rfl (by decide +kernel) ⟨Nat.le_of_ble_eq_true rfl, Nat.le_of_ble_eq_true rfl⟩) (g_preS hG) rfl rfl hl.1 rfl (lv_room (Nat.le_of_ble_eq_true rfl)) dJ41_linkBefore_12 ⟨Nat.le_of_ble_eq_true rfl, Nat.le_of_ble_eq_true rfl⟩) hG (fun F_8 V_9 ws_ H locs hp hG => ?_)
    obtain ⟨rfl, rfl, rfl⟩ := hp
    have hG : gW X F V ((nn, oB 28 [.ref e9, .ref (nA N i), .ref (nA N (i - 1))]) :: (ll, oB 27 [.int (zI mo), .int (zI (N.length : Int)), .ref (nA N 0), .ref (nA N (N.length - 1))]) :: Z) s H locs := hG
    have hG := hG.toV B
    have hnd : (va_up V B (some (nn, oB 28 [.ref e9, .ref (nA N i), .ref (nA N (i - 1))]))) (nR N i) = some ((nA N i), oB 28 [.ref (nT N i), va_rf (nxO N i), .ref (nA N (i - 1))]) := (vun (by omega)).trans hnd
    have hnp : (va_up V B (some (nn, oB 28 [.ref e9, .ref (nA N i), .ref (nA N (i - 1))]))) (nR N (i - 1)) = some ((nA N (i - 1)), oB 28 [.ref (nT N (i - 1)), va_rf (nxO N (i - 1)), va_rf (pvO N (i - 1))]) := (vun (by omega)).trans hnp
    have hBn : (va_up V B (some (nn, oB 28 [.ref e9, .ref (nA N i), .ref (nA N (i - 1))]))) B = some (nn, oB 28 [.ref e9, .ref (nA N i), .ref (nA N (i - 1))]) := vus
    have hG : gW X F (va_up V B (some (nn, oB 28 [.ref e9, .ref (nA N i), .ref (nA N (i - 1))]))) ((ll, oB 27 [.int (zI mo), .int (zI (N.length : Int)), .ref (nA N 0), .ref (nA N (N.length - 1))]) :: Z) s _ _ := hG
    refine lv_astore (lv' := [(4, .ref nn), (3, .ref (nA N (i - 1))), (0, .ref ll), (1, .ref e9), (2, .ref (nA N i))]) hx hb dJ41_linkBefore_15 hl (by decide) rfl (fun ls hl => ?_)
    refine lv_aload_n hx hb dJ41_linkBefore_17 rfl (lv_at hl 4 rfl) ?_
    refine lv_aload hx hb dJ41_linkBefore_18 (lv_at hl 0 rfl) ?_
    refine g_putV (ci := 28) hx hb hts in_J28 tyJ28 tyJ28_ok nmJ28 hown hG hnd rfl 2 (Nat.le_of_ble_eq_true rfl) (hts _ q1233) (fun _ h9 => h9) rfl (tyJ28_ok 2 (Nat.le_of_ble_eq_true rfl)) rfl rfl (Nat.le_of_ble_eq_true rfl) dJ41_linkBefore_20 (fun H locs (hG : gW X F (va_up (va_up V B (some (nn, oB 28 [.ref e9, .ref (nA N i), .ref (nA N (i - 1))]))) (nR N i) (some ((nA N i), oB 28 [.ref (nT N i), va_rf (nxO N i), .ref nn]))) ((ll, oB 27 [.int (zI mo), .int (zI (N.length : Int)), .ref (nA N 0), .ref (nA N (N.length - 1))]) :: Z) s H locs) => ?_)
    have hnd : (va_up (va_up V B (some (nn, oB 28 [.ref e9, .ref (nA N i), .ref (nA N (i - 1))]))) (nR N i) (some ((nA N i), oB 28 [.ref (nT N i), va_rf (nxO N i), .ref nn]))) (nR N i) = some ((nA N i), oB 28 [.ref (nT N i), va_rf (nxO N i), .ref nn]) := vus
    have hnp : (va_up (va_up V B (some (nn, oB 28 [.ref e9, .ref (nA N i), .ref (nA N (i - 1))]))) (nR N i) (some ((nA N i), oB 28 [.ref (nT N i), va_rf (nxO N i), .ref nn]))) (nR N (i - 1)) = some ((nA N (i - 1)), oB 28 [.ref (nT N (i - 1)), va_rf (nxO N (i - 1)), va_rf (pvO N (i - 1))]) := (vun (by omega)).trans hnp
    have hBn : (va_up (va_up V B (some (nn, oB 28 [.ref e9, .ref (nA N i), .ref (nA N (i - 1))]))) (nR N i) (some ((nA N i), oB 28 [.ref (nT N i), va_rf (nxO N i), .ref nn]))) B = some (nn, oB 28 [.ref e9, .ref (nA N i), .ref (nA N (i - 1))]) := (vun (by omega)).trans hBn
    refine lv_aload_n hx hb dJ41_linkBefore_23 rfl (lv_at hl 1 rfl) ?_
    refine lv_ifnonnull (tgt := 36) hx hb dJ41_linkBefore_24 (by decide) ?_
    refine lv_aload_n hx hb dJ41_linkBefore_36 rfl (lv_at hl 1 rfl) ?_
    refine lv_aload hx hb dJ41_linkBefore_37 (lv_at hl 0 rfl) ?_
    refine g_putV (ci := 28) hx hb hts in_J28 tyJ28 tyJ28_ok nmJ28 hown hG hnp rfl 1 (Nat.le_of_ble_eq_true rfl) (hts _ q1231) (fun _ h9 => h9) rfl (tyJ28_ok 1 (Nat.le_of_ble_eq_true rfl)) rfl rfl (Nat.le_of_ble_eq_true rfl) dJ41_linkBefore_39 (fun H locs (hG : gW X F (va_up (va_up (va_up V B (some (nn, oB 28 [.ref e9, .ref (nA N i), .ref (nA N (i - 1))]))) (nR N i) (some ((nA N i), oB 28 [.ref (nT N i), va_rf (nxO N i), .ref nn]))) (nR N (i - 1)) (some ((nA N (i - 1)), oB 28 [.ref (nT N (i - 1)), .ref nn, va_rf (pvO N (i - 1))]))) ((ll, oB 27 [.int (zI mo), .int (zI (N.length : Int)), .ref (nA N 0), .ref (nA N (N.length - 1))]) :: Z) s H locs) => ?_)
    have hnd : (va_up (va_up (va_up V B (some (nn, oB 28 [.ref e9, .ref (nA N i), .ref (nA N (i - 1))]))) (nR N i) (some ((nA N i), oB 28 [.ref (nT N i), va_rf (nxO N i), .ref nn]))) (nR N (i - 1)) (some ((nA N (i - 1)), oB 28 [.ref (nT N (i - 1)), .ref nn, va_rf (pvO N (i - 1))]))) (nR N i) = some ((nA N i), oB 28 [.ref (nT N i), va_rf (nxO N i), .ref nn]) := (vun (by omega)).trans hnd
    have hnp : (va_up (va_up (va_up V B (some (nn, oB 28 [.ref e9, .ref (nA N i), .ref (nA N (i - 1))]))) (nR N i) (some ((nA N i), oB 28 [.ref (nT N i), va_rf (nxO N i), .ref nn]))) (nR N (i - 1)) (some ((nA N (i - 1)), oB 28 [.ref (nT N (i - 1)), .ref nn, va_rf (pvO N (i - 1))]))) (nR N (i - 1)) = some ((nA N (i - 1)), oB 28 [.ref (nT N (i - 1)), .ref nn, va_rf (pvO N (i - 1))]) := vus
    have hBn : (va_up (va_up (va_up V B (some (nn, oB 28 [.ref e9, .ref (nA N i), .ref (nA N (i - 1))]))) (nR N i) (some ((nA N i), oB 28 [.ref (nT N i), va_rf (nxO N i), .ref nn]))) (nR N (i - 1)) (some ((nA N (i - 1)), oB 28 [.ref (nT N (i - 1)), .ref nn, va_rf (pvO N (i - 1))]))) B = some (nn, oB 28 [.ref e9, .ref (nA N i), .ref (nA N (i - 1))]) := (vun (by omega)).trans hBn
    refine lv_aload_n hx hb dJ41_linkBefore_42 rfl (lv_at hl 2 rfl) ?_
    refine lv_dup hx hb dJ41_linkBefore_43 rfl ?_
    refine g_get (ci := 27) hx hb hts in_J41 hown hG (hG.at 0 rfl) rfl 1 (Nat.le_of_ble_eq_true rfl) (hts _ q2507) (fun _ h9 => h9) rfl dJ41_linkBefore_44 ?_
    refine lv_iconst (v := zI 1) hx hb dJ41_linkBefore_47 (by decide +kernel) ?_
    refine g_iadd hx hb dJ41_linkBefore_48 ?_
    refine g_put (ci := 27) hx hb hts in_J41 tyJ41 tyJ41_ok nmJ41 hown hG 0 rfl rfl 1 (Nat.le_of_ble_eq_true rfl) (hts _ q2507) (fun _ h9 => h9) rfl (tyJ41_ok 1 (Nat.le_of_ble_eq_true rfl)) rfl rfl (Nat.le_of_ble_eq_true rfl) dJ41_linkBefore_49 (fun H locs (hG : gW X F (va_up (va_up (va_up V B (some (nn, oB 28 [.ref e9, .ref (nA N i), .ref (nA N (i - 1))]))) (nR N i) (some ((nA N i), oB 28 [.ref (nT N i), va_rf (nxO N i), .ref nn]))) (nR N (i - 1)) (some ((nA N (i - 1)), oB 28 [.ref (nT N (i - 1)), .ref nn, va_rf (pvO N (i - 1))]))) ((ll, oB 27 [.int (zI mo), .int (zI ((N.length : Int) + 1)), .ref (nA N 0), .ref (nA N (N.length - 1))]) :: Z) s H locs) => ?_)
    refine lv_aload_n hx hb dJ41_linkBefore_52 rfl (lv_at hl 2 rfl) ?_
    refine lv_dup hx hb dJ41_linkBefore_53 rfl ?_
    refine g_get (ci := 27) hx hb hts in_J41 hown hG (hG.at 0 rfl) rfl 0 (Nat.le_of_ble_eq_true rfl) (hts _ q772) (u_same (hts _ q768)) rfl dJ41_linkBefore_54 ?_
    refine lv_iconst (v := zI 1) hx hb dJ41_linkBefore_57 (by decide +kernel) ?_
    refine g_iadd hx hb dJ41_linkBefore_58 ?_
    refine g_put (ci := 27) hx hb hts in_J41 tyJ41 tyJ41_ok nmJ41 hown hG 0 rfl rfl 0 (Nat.le_of_ble_eq_true rfl) (hts _ q772) (u_same (hts _ q768)) rfl (tyJ41_ok 0 (Nat.le_of_ble_eq_true rfl)) rfl rfl (Nat.le_of_ble_eq_true rfl) dJ41_linkBefore_59 (fun H locs (hG : gW X F (va_up (va_up (va_up V B (some (nn, oB 28 [.ref e9, .ref (nA N i), .ref (nA N (i - 1))]))) (nR N i) (some ((nA N i), oB 28 [.ref (nT N i), va_rf (nxO N i), .ref nn]))) (nR N (i - 1)) (some ((nA N (i - 1)), oB 28 [.ref (nT N (i - 1)), .ref nn, va_rf (pvO N (i - 1))]))) ((ll, oB 27 [.int (zI (mo + 1)), .int (zI ((N.length : Int) + 1)), .ref (nA N 0), .ref (nA N (N.length - 1))]) :: Z) s H locs) => ?_)
    exact g_vret hx hb hr hlocks hG (⟨rfl, nn, hN.ins (i := i) (by omega) (by rw [if_pos hi, show pvO N i = some (nA N (i - 1)) from if_neg (by omega)]; exact hBn) (fun _ => hnp) (fun _ => hnd) (fun r h1 h2 h3 => (va_up_ne _ _ (h2 (by omega))).trans ((va_up_ne _ _ (h3 hi)).trans (va_up_ne _ _ h1))), ((vx100.rf.up hB).up (by omega)).up (by omega), by rw [llE_ins (by omega), if_neg (by omega), if_neg (by omega)]⟩) ⟨Nat.le_of_ble_eq_true rfl, Nat.le_of_ble_eq_true rfl⟩ dJ41_linkBefore_62

