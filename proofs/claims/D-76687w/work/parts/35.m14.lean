set_option maxRecDepth 100000
def wSeedTo (w : aW) (v : Int32) : aW := (w.1, w.2.1, w.2.2.1, v)
def opSeed (a : aS) (v : Int32) : Int32 × aS := (wSeed (aWd a), aSetW a (wSeedTo (aWd a) v))
def opTrace (a : aS) (i : Int) : Int := if 0 ≤ i ∧ i < ((aTr a).length : Nat) then (aTr a).getD i.toNat 0 else -1
def aSettled (w : aW) : Nat := cnB (wSt w) (wM w)
def aRoots (w : aW) : Nat := cnB (fun m => (rAns (wRk w m)).isNone && aOpen w m) (wM w)
def opStatus (a : aS) (what : Int) : Int32 := if 11 ≤ what ∧ what ≤ 17 then zI (aRf a (what - 10).toNat) else if what = 0 then zI (wN (aWd a) : Nat) else if what = 1 then zI (wM (aWd a) : Nat) else if what = 2 then zI (aSettled (aWd a) : Nat) else if what = 3 then zI (aRoots (aWd a) : Nat) else if what = 4 then zI (wRun (aWd a) : Nat) else if what = 5 then zI (wNeed (aWd a) : Nat) else if what = 6 then zI (wMar (aWd a) : Nat) else if what = 7 then wSeed (aWd a) else if what = 8 then (if wN (aWd a) = 0 then zI 0 else zI ((wTx (aWd a) (wN (aWd a) - 1)).length : Nat)) else if what = 9 then zI ((aTr a).length : Nat) else zI (-1)
theorem mX.seed {S : mS} {a : aS} {v : Int} (h : mX S a) : mX (sI S 8 v) (aSetW a (wSeedTo (aWd a) (zI v))) :=
  ⟨⟨⟨h.o.n, h.o.m, rfl⟩, h.o.rv, h.1.2.2.1, h.1.2.2.2.1, h.o.need, h.o.mar⟩, h.2.1.cg ⟨⟨rfl, rfl, rfl, rfl⟩, ⟨rfl, rfl, rfl, rfl⟩, rfl⟩, fun s hs => (h.2.2.1 s hs).cg' ⟨rfl, rfl, rfl⟩, h.2.2.2.1, h.2.2.2.2.1, h.2.2.2.2.2.cg ⟨rfl, rfl⟩⟩
theorem mX.ran {S T : mS} {a : aS} {t : List Int} (h : mX S a) (hi : ∀ k, k < 25 → k ≠ 13 → T.1 k = S.1 k) (ha : ∀ k, k < 25 → k ≠ 14 → T.2.1 k = S.2.1 k) (hl : T.2.2 = S.2.2) (hT : mT T t) : mX T (aSetT a t) :=
  ⟨(mX.o h).cg ⟨⟨hi 0 (by decide) (by decide), hi 5 (by decide) (by decide), hi 8 (by decide) (by decide)⟩, ⟨ha 1 (by decide) (by decide), ha 2 (by decide) (by decide), ha 4 (by decide) (by decide), ha 6 (by decide) (by decide), ha 7 (by decide) (by decide)⟩, by rw [hl]⟩,
   h.2.1.cg ⟨⟨hi 16 (by decide) (by decide), hi 17 (by decide) (by decide), hi 21 (by decide) (by decide), hi 24 (by decide) (by decide)⟩, ⟨ha 18 (by decide) (by decide), ha 19 (by decide) (by decide), ha 22 (by decide) (by decide), ha 23 (by decide) (by decide)⟩, by rw [hl]⟩,
   fun s hs => (h.2.2.1 s hs).cg' ⟨ha 9 (by decide) (by decide), ha 10 (by decide) (by decide), by rw [hl]⟩,
   fun j hj => (congrFun (ha 15 (by decide) (by decide)) j).trans (h.2.2.2.1 j hj), (hi 12 (by decide) (by decide)).trans h.2.2.2.2.1, hT⟩
theorem mT.ran {S : mS} {t : List Int} {b : Int} (h : mT S t) : mT (sI (sA S 14 t.length b) 13 (t.length + 1 : Nat)) (t ++ [b]) := by
  refine ⟨by rw [sI_s, List.length_append]; rfl, fun i hi => ?_⟩
  show (sA S 14 t.length b).2.1 14 i = _
  rw [List.length_append] at hi
  have hi : i < t.length + 1 := hi
  by_cases hit : i = t.length
  · subst hit; rw [sA_s, List.getD_eq_getElem?_getD, List.getElem?_append_right (Nat.le_refl _), Nat.sub_self]; rfl
  · rw [sA_n hit, h.2 i (by omega), List.getD_eq_getElem?_getD, List.getD_eq_getElem?_getD, List.getElem?_append_left (by omega)]
theorem aSetT_T {a : aS} {t u : List Int} : aSetT (aSetT a t) u = aSetT a u := rfl
theorem aOK.t {a : aS} {t : List Int} (h : aOK a) (k : t.length ≤ 20) : aOK (aSetT a t) := ⟨h.1, h.2.1, h.2.2.1, k⟩
set_option maxHeartbeats 4000000 in
theorem metX4_seed {l : Launch} {X : gX} {mo : Nat} {ad : Nat → Nat} {S : mS} {a : aS} (hX : mX S a) (hA : aOK a) {v : Int} : Met l yX4_seed (ws_ yX4_seed cX4_seed 3 (some FieldType.int)) ({ frames := 0, cells := 0, slots := 0, locals := 0 }) (mP X mo ad S [.ref mo, .int (zI v)]) (mQi X mo ad (fun u T => u = (opSeed a (zI v)).1 ∧ mX T (opSeed a (zI v)).2)) 0 0 (mA mo ad) := by
  refine Met.m (by decide) (Nat.le_of_ble_eq_true rfl) ?_
  intro p e s m below meth c ls hx hb hr hts hown hlocks hml hG hl
  have hl : lv_has ls 3 [(0, .ref mo), (1, .int (zI v))] := hl
  refine lv_aload_n hx hb dX4_seed_0 rfl (lv_at hl 0 rfl) ?_
  refine m_get 8 (by decide) (v := .int (zI (S.1 8))) rfl hx hb hts hown hG (hts _ q3304) dX4_seed_1 ?_
  refine lv_istore_n (lv' := [(2, .int (zI (S.1 8))), (0, .ref mo), (1, .int (zI v))]) hx hb dX4_seed_4 rfl hl (by decide) rfl (fun ls hl => ?_)
  refine lv_aload_n hx hb dX4_seed_5 rfl (lv_at hl 1 rfl) ?_
  refine lv_iload_n hx hb dX4_seed_6 rfl (lv_at hl 2 rfl) ?_
  refine m_put 8 (by decide) rfl rfl (tyX4_ok 8 (by decide)) rfl rfl hx hb hts hown hG (hts _ q3304) dX4_seed_7 (fun H locs (hG : mW X mo ad (sI S 8 v) s H locs) => ?_)
  refine lv_iload_n hx hb dX4_seed_10 rfl (lv_at hl 0 rfl) ?_
  exact m_iret hx hb hr hlocks hG (⟨hX.o.seed, hX.seed⟩) ⟨Nat.le_of_ble_eq_true rfl, Nat.le_of_ble_eq_true rfl⟩ dX4_seed_11

set_option maxHeartbeats 4000000 in
theorem metX4_trace {l : Launch} {X : gX} {mo : Nat} {ad : Nat → Nat} {S : mS} {a : aS} (hX : mX S a) (hA : aOK a) {i : Int} (hr0 : -2147483648 ≤ i ∧ i < 2147483648) : Met l yX4_trace (ws_ yX4_trace cX4_trace 2 (some FieldType.int)) ({ frames := 1, cells := 0, slots := 0, locals := 22 }) (mP X mo ad S [.ref mo, .int (zI i)]) (mQi X mo ad (fun u T => u = zI (opTrace a i) ∧ S = T)) 0 0 (mA mo ad) := by
  refine Met.m (by decide) (Nat.le_of_ble_eq_true rfl) ?_
  intro p e s m below meth c ls hx hb hr hts hown hlocks hml hG hl
  have hl : lv_has ls 2 [(0, .ref mo), (1, .int (zI i))] := hl
  have hNN := hA.w.n
  have hMM := hA.w.m
  have htl := hA.2.2.2
  refine lv_iload_n hx hb dX4_trace_0 rfl (lv_at hl 1 rfl) ?_
  refine lv_iconst (v := zI 0) hx hb dX4_trace_1 (by decide +kernel) ?_
  refine lv_bipush (v := zI 20) hx hb dX4_trace_2 (by decide +kernel) ?_
  refine lv_aload_n hx hb dX4_trace_4 rfl (lv_at hl 0 rfl) ?_
  refine m_get 13 (by decide) (v := .int (zI ((aTr a).length : Int))) (congrArg (fun z => Value.int (zI z)) (show S.1 13 = ((aTr a).length : Int) from hX.2.2.2.2.2.1)) hx hb hts hown hG (hts _ q3309) dX4_trace_5 ?_
  refine g_min hx hb (hml.trans hl.1.symm) hts hown (hts _ q3631) ⟨Nat.le_of_ble_eq_true rfl, Nat.le_of_ble_eq_true rfl, Nat.le_of_ble_eq_true rfl, Nat.le_of_ble_eq_true rfl⟩ (by omega) dX4_trace_8 ?_
  refine lv_iconst (v := zI 1) hx hb dX4_trace_11 (by decide +kernel) ?_
  refine g_isub hx hb dX4_trace_12 ?_
  refine m_ci (va_runS (As := [.int (zI i), .int (zI 0), .int (zI ((min 20 ((aTr a).length : Int)) - 1))]) (rest := []) ⟨hx, hb, hml, hown, hts⟩ (metX4_within (by omega)) (va_cwS 3 hts (lw_S q3424 q3425 q102 q3426) rfl rfl rfl (by decide +kernel) ⟨Nat.le_of_ble_eq_true rfl, Nat.le_of_ble_eq_true rfl⟩) (m_preS hG) rfl rfl hl.1 rfl (lv_room (Nat.le_of_ble_eq_true rfl)) dX4_trace_13 ⟨Nat.le_of_ble_eq_true rfl, Nat.le_of_ble_eq_true rfl⟩) hG (fun r_1 S_2 H locs hp hG => ?_)
  obtain ⟨bw1, rfl, hbw1, rfl⟩ := hp
  have hG : mW X mo ad S s H locs := hG
  refine g_eq (tgt := 28) hx hb dX4_trace_16 (by decide) (by omega) (fun h2 => ?_) (fun h2 => ?_)
  · refine lv_iconst (v := zI (-1)) hx hb dX4_trace_28 (by decide +kernel) ?_
    exact m_iret hx hb hr hlocks hG (by first | (exfalso; omega) | exact ⟨congrArg zI (by unfold opTrace; all_goals ((repeat (first | rw [if_pos (by omega)] | rw [if_neg (by omega)])) <;> rfl)), rfl⟩) ⟨Nat.le_of_ble_eq_true rfl, Nat.le_of_ble_eq_true rfl⟩ dX4_trace_29
  · obtain ⟨i1, rfl⟩ : ∃ n9 : Nat, i = n9 := ⟨i.toNat, by omega⟩
    refine lv_aload_n hx hb dX4_trace_19 rfl (lv_at hl 0 rfl) ?_
    refine m_get 14 (by decide) (v := .ref (ad 14)) rfl hx hb hts hown hG (hts _ q3310) dX4_trace_20 ?_
    refine lv_iload_n hx hb dX4_trace_23 rfl (lv_at hl 1 rfl) ?_
    refine m_iald 14 rfl rfl (by decide) i1 (v := ((aTr a).getD i1 0)) ⟨by omega, by show _ < 20; omega⟩ (show S.2.1 14 i1 = ((aTr a).getD i1 0) from (hX.2.2.2.2.2.2 i1 (by omega))) hx hb hG dX4_trace_24 ?_
    refine lv_goto (tgt := 29) hx hb dX4_trace_25 (by decide) ?_
    exact m_iret hx hb hr hlocks hG (by first | (exfalso; omega) | exact ⟨congrArg zI (by unfold opTrace; all_goals ((repeat (first | rw [if_pos (by omega)] | rw [if_neg (by omega)])) <;> rfl)), rfl⟩) ⟨Nat.le_of_ble_eq_true rfl, Nat.le_of_ble_eq_true rfl⟩ dX4_trace_29

set_option maxHeartbeats 4000000 in
theorem metX4_settled {l : Launch} {X : gX} {mo : Nat} {ad : Nat → Nat} {S : mS} {w : aW} (hO : mO S w) (hK : wOK w) : Met l yX4_settled (ws_ yX4_settled cX4_settled 3 (some FieldType.int)) ({ frames := 1, cells := 0, slots := 0, locals := 22 }) (mP X mo ad S [.ref mo]) (mQi X mo ad (fun u T => u = zI (aSettled w : Nat) ∧ S = T)) 0 0 (mA mo ad) := by
  refine Met.m (by decide) (Nat.le_of_ble_eq_true rfl) ?_
  intro p e s m below meth c ls hx hb hr hts hown hlocks hml hG hl
  have hl : lv_has ls 3 [(0, .ref mo)] := hl
  have hNN := hK.n
  have hMM := hK.m
  refine lv_iconst (v := zI 0) hx hb dX4_settled_0 (by decide +kernel) ?_
  refine lv_istore_n (lv' := [(1, .int (zI 0)), (0, .ref mo)]) hx hb dX4_settled_1 rfl hl (by decide) rfl (fun ls hl => ?_)
  refine lv_iconst (v := zI 0) hx hb dX4_settled_2 (by decide +kernel) ?_
  refine lv_istore_n (lv' := [(2, .int (zI 0)), (1, .int (zI 0)), (0, .ref mo)]) hx hb dX4_settled_3 rfl hl (by decide) rfl (fun ls hl => ?_)
  refine g_loop (fun mz H locs ls => ∃ (x : Nat), (x ≤ wM w ∧ mz = wM w - x) ∧ mW X mo ad S s H locs ∧ lv_has ls 3 [(0, .ref mo), (1, .int (zI (cnB (wSt w) x : Int))), (2, .int (zI (x : Int)))]) (wM w - 0) ⟨0, ⟨Nat.zero_le _, rfl⟩, hG, (lv_sub hl [2, 1, 0] rfl)⟩ (fun mz ihA H locs ls hI => ?_)
  obtain ⟨x, ⟨hx9, hmz⟩, hG, hl⟩ := hI
  refine lv_iload_n hx hb dX4_settled_4 rfl (lv_at hl 2 rfl) ?_
  refine lv_aload_n hx hb dX4_settled_5 rfl (lv_at hl 0 rfl) ?_
  refine m_get 5 (by decide) (v := .int (zI (wM w : Int))) (congrArg (fun z => Value.int (zI z)) (show S.1 5 = (wM w : Int) from hO.m)) hx hb hts hown hG (hts _ q3301) dX4_settled_6 ?_
  have hcl := cnB_le (wSt w) x
  refine g_cge (tgt := 28) hx hb dX4_settled_9 (by decide) (by omega) (fun h1 => ?_) (fun h1 => ?_)
  · refine lv_iload_n hx hb dX4_settled_28 rfl (lv_at hl 1 rfl) ?_
    exact m_iret hx hb hr hlocks hG (⟨by rw [show x = wM w by omega]; rfl, rfl⟩) ⟨Nat.le_of_ble_eq_true rfl, Nat.le_of_ble_eq_true rfl⟩ dX4_settled_29
  · refine lv_iload_n hx hb dX4_settled_12 rfl (lv_at hl 1 rfl) ?_
    refine lv_aload_n hx hb dX4_settled_13 rfl (lv_at hl 0 rfl) ?_
    refine lv_bipush (v := zI 6) hx hb dX4_settled_14 (by decide +kernel) ?_
    refine lv_iload_n hx hb dX4_settled_16 rfl (lv_at hl 2 rfl) ?_
    refine m_ci (va_runV (As := [.int (zI 6), .int (zI (x : Int))]) (rest := [.int (zI (cnB (wSt w) x : Int))]) ⟨hx, hb, hml, hown, hts⟩ (metX4_of 6 (m0 := x) (by omega)) (cwV 2 hts (lw_V q3467 q3469 qs47 q102 q3470) rfl rfl rfl (by decide +kernel) ⟨Nat.le_of_ble_eq_true rfl, Nat.le_of_ble_eq_true rfl⟩) (m_preV hG) rfl rfl hl.1 rfl (lv_room (Nat.le_of_ble_eq_true rfl)) dX4_settled_17 ⟨Nat.le_of_ble_eq_true rfl, Nat.le_of_ble_eq_true rfl⟩) hG (fun r_1 S_2 H locs hp hG => ?_)
    obtain ⟨rfl, rfl⟩ := hp
    have hG : mW X mo ad S s H locs := hG
    refine g_topz (y := (bI (wSt w x))) (hO.st (m := x) (by omega)) ?_
    have hv1 : bI (wSt w x) = 0 ∨ bI (wSt w x) = 1 := by cases wSt w x <;> simp [bI]
    refine g_iadd hx hb dX4_settled_20 ?_
    refine lv_istore_n (lv' := [(1, .int (zI ((cnB (wSt w) x : Int) + (bI (wSt w x))))), (0, .ref mo), (2, .int (zI (x : Int)))]) hx hb dX4_settled_21 rfl hl (by decide) rfl (fun ls hl => ?_)
    have hl : lv_has ls 3 [(1, .int (zI (cnB (wSt w) (x + 1) : Int))), (0, .ref mo), (2, .int (zI (x : Int)))] := by rw [show ((cnB (wSt w) (x + 1) : Nat) : Int) = (cnB (wSt w) x : Int) + bI (wSt w x) from by rw [cnB]; cases wSt w x <;> rfl]; exact hl
    refine lv_iinc (v := zI ((x : Int) + 1 : Int)) (lv' := [(2, .int (zI ((x : Int) + 1 : Int))), (1, .int (zI (cnB (wSt w) (x + 1) : Int))), (0, .ref mo)]) hx hb dX4_settled_22 hl (k := 2) rfl ((zI_add _ _).trans (congrArg zI (by omega))) (by decide) rfl (fun ls hl => ?_)
    refine lv_goto (tgt := 4) hx hb dX4_settled_25 (by decide) ?_
    exact ihA (wM w - (x + 1)) (by omega) H locs ls ⟨(x + 1), ⟨by omega, rfl⟩, hG, (lv_sub hl [2, 1, 0] rfl)⟩

set_option maxHeartbeats 4000000 in
theorem metX4_openOnes {l : Launch} {X : gX} {mo : Nat} {ad : Nat → Nat} {S : mS} {w : aW} (hO : mO S w) (hK : wOK w) : Met l yX4_openOnes (ws_ yX4_openOnes cX4_openOnes 3 (some FieldType.int)) ({ frames := 3, cells := 0, slots := 0, locals := 67 }) (mP X mo ad S [.ref mo]) (mQi X mo ad (fun u T => u = zI (aRoots w : Nat) ∧ S = T)) 0 0 (mA mo ad) := by
  refine Met.m (by decide) (Nat.le_of_ble_eq_true rfl) ?_
  intro p e s m below meth c ls hx hb hr hts hown hlocks hml hG hl
  have hl : lv_has ls 3 [(0, .ref mo)] := hl
  have hNN := hK.n
  have hMM := hK.m
  refine lv_iconst (v := zI 0) hx hb dX4_openOnes_0 (by decide +kernel) ?_
  refine lv_istore_n (lv' := [(1, .int (zI 0)), (0, .ref mo)]) hx hb dX4_openOnes_1 rfl hl (by decide) rfl (fun ls hl => ?_)
  refine lv_iconst (v := zI 0) hx hb dX4_openOnes_2 (by decide +kernel) ?_
  refine lv_istore_n (lv' := [(2, .int (zI 0)), (1, .int (zI 0)), (0, .ref mo)]) hx hb dX4_openOnes_3 rfl hl (by decide) rfl (fun ls hl => ?_)
  refine g_loop (fun mz H locs ls => ∃ (x : Nat), (x ≤ wM w ∧ mz = wM w - x) ∧ mW X mo ad S s H locs ∧ lv_has ls 3 [(0, .ref mo), (1, .int (zI (cnB (fun m => (rAns (wRk w m)).isNone && aOpen w m) x : Int))), (2, .int (zI (x : Int)))]) (wM w - 0) ⟨0, ⟨Nat.zero_le _, rfl⟩, hG, (lv_sub hl [2, 1, 0] rfl)⟩ (fun mz ihA H locs ls hI => ?_)
  obtain ⟨x, ⟨hx9, hmz⟩, hG, hl⟩ := hI
  refine lv_iload_n hx hb dX4_openOnes_4 rfl (lv_at hl 2 rfl) ?_
  refine lv_aload_n hx hb dX4_openOnes_5 rfl (lv_at hl 0 rfl) ?_
  refine m_get 5 (by decide) (v := .int (zI (wM w : Int))) (congrArg (fun z => Value.int (zI z)) (show S.1 5 = (wM w : Int) from hO.m)) hx hb hts hown hG (hts _ q3301) dX4_openOnes_6 ?_
  have hcl := cnB_le (fun m => (rAns (wRk w m)).isNone && aOpen w m) x
  refine g_cge (tgt := 39) hx hb dX4_openOnes_9 (by decide) (by omega) (fun h1 => ?_) (fun h1 => ?_)
  · refine lv_iload_n hx hb dX4_openOnes_39 rfl (lv_at hl 1 rfl) ?_
    exact m_iret hx hb hr hlocks hG (⟨by rw [show x = wM w by omega]; rfl, rfl⟩) ⟨Nat.le_of_ble_eq_true rfl, Nat.le_of_ble_eq_true rfl⟩ dX4_openOnes_40
  · refine lv_aload_n hx hb dX4_openOnes_12 rfl (lv_at hl 0 rfl) ?_
    refine lv_iconst (v := zI 5) hx hb dX4_openOnes_13 (by decide +kernel) ?_
    refine lv_iload_n hx hb dX4_openOnes_14 rfl (lv_at hl 2 rfl) ?_
    refine m_ci (va_runV (As := [.int (zI 5), .int (zI (x : Int))]) (rest := []) ⟨hx, hb, hml, hown, hts⟩ (metX4_of 5 (m0 := x) (by omega)) (cwV 2 hts (lw_V q3467 q3469 qs47 q102 q3470) rfl rfl rfl (by decide +kernel) ⟨Nat.le_of_ble_eq_true rfl, Nat.le_of_ble_eq_true rfl⟩) (m_preV hG) rfl rfl hl.1 rfl (lv_room (Nat.le_of_ble_eq_true rfl)) dX4_openOnes_15 ⟨Nat.le_of_ble_eq_true rfl, Nat.le_of_ble_eq_true rfl⟩) hG (fun r_1 S_2 H locs hp hG => ?_)
    obtain ⟨rfl, rfl⟩ := hp
    have hG : mW X mo ad S s H locs := hG
    refine g_topz (y := (oI (rAns (wRk w x)))) (hO.ans (m := x) (by omega)) ?_
    have hv1 := oI_lt (fun z9 hz9 => hK.ra (m := x) (x := z9) (by omega) hz9)
    refine lv_iconst (v := zI (-1)) hx hb dX4_openOnes_18 (by decide +kernel) ?_
    refine g_cne (tgt := 33) hx hb dX4_openOnes_19 (by decide) (by omega) (fun h2 => ?_) (fun h2 => ?_)
    · have hl : lv_has ls 3 [(0, .ref mo), (1, .int (zI (cnB (fun m => (rAns (wRk w m)).isNone && aOpen w m) (x + 1) : Int))), (2, .int (zI (x : Int)))] := by rw [show cnB (fun m => (rAns (wRk w m)).isNone && aOpen w m) (x + 1) = cnB (fun m => (rAns (wRk w m)).isNone && aOpen w m) x from by rw [cnB, if_neg (by rw [show (rAns (wRk w x)).isNone = false from by cases hq : rAns (wRk w x) with | none => (rw [hq] at h2; exact absurd rfl h2) | some z => rfl]; exact nofun)]; rfl]; exact hl
      refine lv_iinc (v := zI ((x : Int) + 1 : Int)) (lv' := [(2, .int (zI ((x : Int) + 1 : Int))), (0, .ref mo), (1, .int (zI (cnB (fun m => (rAns (wRk w m)).isNone && aOpen w m) (x + 1) : Int)))]) hx hb dX4_openOnes_33 hl (k := 2) rfl ((zI_add _ _).trans (congrArg zI (by omega))) (by decide) rfl (fun ls hl => ?_)
      refine lv_goto (tgt := 4) hx hb dX4_openOnes_36 (by decide) ?_
      exact ihA (wM w - (x + 1)) (by omega) H locs ls ⟨(x + 1), ⟨by omega, rfl⟩, hG, (lv_sub hl [1, 2, 0] rfl)⟩
    · refine lv_aload_n hx hb dX4_openOnes_22 rfl (lv_at hl 0 rfl) ?_
      refine lv_iload_n hx hb dX4_openOnes_23 rfl (lv_at hl 2 rfl) ?_
      refine m_ci (va_runV (As := [.int (zI (x : Int))]) (rest := []) ⟨hx, hb, hml, hown, hts⟩ (metX4_isOpen (y := x) hO hK (by omega)) (cwV 1 hts (lw_V q3599 q3601 qs66 q102 q3602) rfl rfl rfl (by decide +kernel) ⟨Nat.le_of_ble_eq_true rfl, Nat.le_of_ble_eq_true rfl⟩) (m_preV hG) rfl rfl hl.1 rfl (lv_room (Nat.le_of_ble_eq_true rfl)) dX4_openOnes_24 ⟨Nat.le_of_ble_eq_true rfl, Nat.le_of_ble_eq_true rfl⟩) hG (fun r_3 S_4 H locs hp hG => ?_)
      obtain ⟨b3, rfl, hb3, rfl⟩ := hp
      have hG : mW X mo ad S s H locs := hG
      refine g_eq (tgt := 33) hx hb dX4_openOnes_27 (by decide) (by omega) (fun h3 => ?_) (fun h3 => ?_)
      · have hl : lv_has ls 3 [(0, .ref mo), (1, .int (zI (cnB (fun m => (rAns (wRk w m)).isNone && aOpen w m) (x + 1) : Int))), (2, .int (zI (x : Int)))] := by rw [show cnB (fun m => (rAns (wRk w m)).isNone && aOpen w m) (x + 1) = cnB (fun m => (rAns (wRk w m)).isNone && aOpen w m) x from by rw [cnB, if_neg (by rw [Bool.eq_false_iff.mpr (hb3.elim (fun q => absurd q.1 (by omega)) (fun q => q.2)), Bool.and_false]; exact nofun)]; rfl]; exact hl
        refine lv_iinc (v := zI ((x : Int) + 1 : Int)) (lv' := [(2, .int (zI ((x : Int) + 1 : Int))), (0, .ref mo), (1, .int (zI (cnB (fun m => (rAns (wRk w m)).isNone && aOpen w m) (x + 1) : Int)))]) hx hb dX4_openOnes_33 hl (k := 2) rfl ((zI_add _ _).trans (congrArg zI (by omega))) (by decide) rfl (fun ls hl => ?_)
        refine lv_goto (tgt := 4) hx hb dX4_openOnes_36 (by decide) ?_
        exact ihA (wM w - (x + 1)) (by omega) H locs ls ⟨(x + 1), ⟨by omega, rfl⟩, hG, (lv_sub hl [1, 2, 0] rfl)⟩
      · refine lv_iinc (v := zI ((cnB (fun m => (rAns (wRk w m)).isNone && aOpen w m) x : Int) + 1 : Int)) (lv' := [(1, .int (zI ((cnB (fun m => (rAns (wRk w m)).isNone && aOpen w m) x : Int) + 1 : Int))), (0, .ref mo), (2, .int (zI (x : Int)))]) hx hb dX4_openOnes_30 hl (k := 1) rfl ((zI_add _ _).trans (congrArg zI (by omega))) (by decide) rfl (fun ls hl => ?_)
        have hl : lv_has ls 3 [(1, .int (zI (cnB (fun m => (rAns (wRk w m)).isNone && aOpen w m) (x + 1) : Int))), (0, .ref mo), (2, .int (zI (x : Int)))] := by rw [show ((cnB (fun m => (rAns (wRk w m)).isNone && aOpen w m) (x + 1) : Nat) : Int) = (cnB (fun m => (rAns (wRk w m)).isNone && aOpen w m) x : Int) + 1 from by rw [cnB, if_pos (by rw [oI_m1.mp h2, (hb3.elim (fun q => q.2) (fun q => absurd q.1 (by omega)) : aOpen w x = true)]; rfl)]; rfl]; exact hl
        refine lv_iinc (v := zI ((x : Int) + 1 : Int)) (lv' := [(2, .int (zI ((x : Int) + 1 : Int))), (1, .int (zI (cnB (fun m => (rAns (wRk w m)).isNone && aOpen w m) (x + 1) : Int))), (0, .ref mo)]) hx hb dX4_openOnes_33 hl (k := 2) rfl ((zI_add _ _).trans (congrArg zI (by omega))) (by decide) rfl (fun ls hl => ?_)
        refine lv_goto (tgt := 4) hx hb dX4_openOnes_36 (by decide) ?_
        exact ihA (wM w - (x + 1)) (by omega) H locs ls ⟨(x + 1), ⟨by omega, rfl⟩, hG, (lv_sub hl [2, 1, 0] rfl)⟩

set_option maxHeartbeats 4000000 in
theorem metX4_status {l : Launch} {X : gX} {mo : Nat} {ad : Nat → Nat} {S : mS} {a : aS} (hX : mX S a) (hA : aOK a) {what : Int} (hr0 : -2147483648 ≤ what ∧ what < 2147483648) : Met l yX4_status (ws_ yX4_status cX4_status 2 (some FieldType.int)) ({ frames := 4, cells := 0, slots := 0, locals := 89 }) (mP X mo ad S [.ref mo, .int (zI what)]) (mQi X mo ad (fun u T => u = opStatus a what ∧ S = T)) 0 0 (mA mo ad) := by
  refine Met.m (by decide) (Nat.le_of_ble_eq_true rfl) ?_
  intro p e s m below meth c ls hx hb hr hts hown hlocks hml hG hl
  have hl : lv_has ls 2 [(0, .ref mo), (1, .int (zI what))] := hl
  have hNN := hA.w.n
  have hMM := hA.w.m
  refine lv_iload_n hx hb dX4_status_0 rfl (lv_at hl 1 rfl) ?_
  refine lv_bipush (v := zI 11) hx hb dX4_status_1 (by decide +kernel) ?_
  refine lv_bipush (v := zI 17) hx hb dX4_status_3 (by decide +kernel) ?_
  refine m_ci (va_runS (As := [.int (zI what), .int (zI 11), .int (zI 17)]) (rest := []) ⟨hx, hb, hml, hown, hts⟩ (metX4_within (by omega)) (va_cwS 3 hts (lw_S q3424 q3425 q102 q3426) rfl rfl rfl (by decide +kernel) ⟨Nat.le_of_ble_eq_true rfl, Nat.le_of_ble_eq_true rfl⟩) (m_preS hG) rfl rfl hl.1 rfl (lv_room (Nat.le_of_ble_eq_true rfl)) dX4_status_5 ⟨Nat.le_of_ble_eq_true rfl, Nat.le_of_ble_eq_true rfl⟩) hG (fun r_1 S_2 H locs hp hG => ?_)
  obtain ⟨bw1, rfl, hbw1, rfl⟩ := hp
  have hG : mW X mo ad S s H locs := hG
  refine g_eq (tgt := 21) hx hb dX4_status_8 (by decide) (by omega) (fun h2 => ?_) (fun h2 => ?_)
  · refine lv_iload_n hx hb dX4_status_21 rfl (lv_at hl 1 rfl) ?_
    rcases (show what = 0 ∨ what = 1 ∨ what = 2 ∨ what = 3 ∨ what = 4 ∨ what = 5 ∨ what = 6 ∨ what = 7 ∨ what = 8 ∨ what = 9 ∨ (what < 0 ∨ 9 < what) by omega) with hk | hk | hk | hk | hk | hk | hk | hk | hk | hk | hk
    · refine g_tin hx hb 0 (off := 54) (tgt := 76) dX4_status_22 hk (by decide) rfl (by decide) ?_
      refine lv_aload_n hx hb dX4_status_76 rfl (lv_at hl 0 rfl) ?_
      refine m_get 0 (by decide) (v := .int (zI (wN (aWd a) : Int))) (congrArg (fun z => Value.int (zI z)) (show S.1 0 = (wN (aWd a) : Int) from hX.o.n)) hx hb hts hown hG (hts _ q3296) dX4_status_77 ?_
      exact m_iret hx hb hr hlocks hG (by first | (exfalso; omega) | exact ⟨by unfold opStatus; (repeat (first | rw [if_pos (by omega)] | rw [if_neg (by omega)])) <;> first | rfl | exact hX.o.seed, rfl⟩) ⟨Nat.le_of_ble_eq_true rfl, Nat.le_of_ble_eq_true rfl⟩ dX4_status_80
    · refine g_tin hx hb 1 (off := 59) (tgt := 81) dX4_status_22 hk (by decide) rfl (by decide) ?_
      refine lv_aload_n hx hb dX4_status_81 rfl (lv_at hl 0 rfl) ?_
      refine m_get 5 (by decide) (v := .int (zI (wM (aWd a) : Int))) (congrArg (fun z => Value.int (zI z)) (show S.1 5 = (wM (aWd a) : Int) from hX.o.m)) hx hb hts hown hG (hts _ q3301) dX4_status_82 ?_
      exact m_iret hx hb hr hlocks hG (by first | (exfalso; omega) | exact ⟨by unfold opStatus; (repeat (first | rw [if_pos (by omega)] | rw [if_neg (by omega)])) <;> first | rfl | exact hX.o.seed, rfl⟩) ⟨Nat.le_of_ble_eq_true rfl, Nat.le_of_ble_eq_true rfl⟩ dX4_status_85
    · refine g_tin hx hb 2 (off := 64) (tgt := 86) dX4_status_22 hk (by decide) rfl (by decide) ?_
      refine lv_aload_n hx hb dX4_status_86 rfl (lv_at hl 0 rfl) ?_
      refine m_ci (va_runV (As := []) (rest := []) ⟨hx, hb, hml, hown, hts⟩ (metX4_settled hX.o hA.w) (cwV 0 hts (lw_V q3742 q3744 qs84 q102 q3745) rfl rfl rfl (by decide +kernel) ⟨Nat.le_of_ble_eq_true rfl, Nat.le_of_ble_eq_true rfl⟩) (m_preV hG) rfl rfl hl.1 rfl (lv_room (Nat.le_of_ble_eq_true rfl)) dX4_status_87 ⟨Nat.le_of_ble_eq_true rfl, Nat.le_of_ble_eq_true rfl⟩) hG (fun r_3 S_4 H locs hp hG => ?_)
      obtain ⟨rfl, rfl⟩ := hp
      have hG : mW X mo ad S s H locs := hG
      exact m_iret hx hb hr hlocks hG (by first | (exfalso; omega) | exact ⟨by unfold opStatus; (repeat (first | rw [if_pos (by omega)] | rw [if_neg (by omega)])) <;> first | rfl | exact hX.o.seed, rfl⟩) ⟨Nat.le_of_ble_eq_true rfl, Nat.le_of_ble_eq_true rfl⟩ dX4_status_90
    · refine g_tin hx hb 3 (off := 69) (tgt := 91) dX4_status_22 hk (by decide) rfl (by decide) ?_
      refine lv_aload_n hx hb dX4_status_91 rfl (lv_at hl 0 rfl) ?_
      refine m_ci (va_runV (As := []) (rest := []) ⟨hx, hb, hml, hown, hts⟩ (metX4_openOnes hX.o hA.w) (cwV 0 hts (lw_V q3746 q3748 qs85 q102 q3749) rfl rfl rfl (by decide +kernel) ⟨Nat.le_of_ble_eq_true rfl, Nat.le_of_ble_eq_true rfl⟩) (m_preV hG) rfl rfl hl.1 rfl (lv_room (Nat.le_of_ble_eq_true rfl)) dX4_status_92 ⟨Nat.le_of_ble_eq_true rfl, Nat.le_of_ble_eq_true rfl⟩) hG (fun r_5 S_6 H locs hp hG => ?_)
      obtain ⟨rfl, rfl⟩ := hp
      have hG : mW X mo ad S s H locs := hG
      exact m_iret hx hb hr hlocks hG (by first | (exfalso; omega) | exact ⟨by unfold opStatus; (repeat (first | rw [if_pos (by omega)] | rw [if_neg (by omega)])) <;> first | rfl | exact hX.o.seed, rfl⟩) ⟨Nat.le_of_ble_eq_true rfl, Nat.le_of_ble_eq_true rfl⟩ dX4_status_95
    · refine g_tin hx hb 4 (off := 74) (tgt := 96) dX4_status_22 hk (by decide) rfl (by decide) ?_
      refine lv_aload_n hx hb dX4_status_96 rfl (lv_at hl 0 rfl) ?_
      refine m_get 7 (by decide) (v := .ref (ad 7)) rfl hx hb hts hown hG (hts _ q3303) dX4_status_97 ?_
      refine lv_iconst (v := zI 0) hx hb dX4_status_100 (by decide +kernel) ?_
      refine m_iald 7 rfl rfl (by decide) 0 (v := (wRun (aWd a) : Int)) ⟨by omega, by show _ < 3; omega⟩ (show S.2.1 7 0 = (wRun (aWd a) : Int) from hX.o.run) hx hb hG dX4_status_101 ?_
      exact m_iret hx hb hr hlocks hG (by first | (exfalso; omega) | exact ⟨by unfold opStatus; (repeat (first | rw [if_pos (by omega)] | rw [if_neg (by omega)])) <;> first | rfl | exact hX.o.seed, rfl⟩) ⟨Nat.le_of_ble_eq_true rfl, Nat.le_of_ble_eq_true rfl⟩ dX4_status_102
    · refine g_tin hx hb 5 (off := 81) (tgt := 103) dX4_status_22 hk (by decide) rfl (by decide) ?_
      refine lv_aload_n hx hb dX4_status_103 rfl (lv_at hl 0 rfl) ?_
      refine m_get 7 (by decide) (v := .ref (ad 7)) rfl hx hb hts hown hG (hts _ q3303) dX4_status_104 ?_
      refine lv_iconst (v := zI 1) hx hb dX4_status_107 (by decide +kernel) ?_
      refine m_iald 7 rfl rfl (by decide) 1 (v := (wNeed (aWd a) : Int)) ⟨by omega, by show _ < 3; omega⟩ (show S.2.1 7 1 = (wNeed (aWd a) : Int) from hX.o.need) hx hb hG dX4_status_108 ?_
      exact m_iret hx hb hr hlocks hG (by first | (exfalso; omega) | exact ⟨by unfold opStatus; (repeat (first | rw [if_pos (by omega)] | rw [if_neg (by omega)])) <;> first | rfl | exact hX.o.seed, rfl⟩) ⟨Nat.le_of_ble_eq_true rfl, Nat.le_of_ble_eq_true rfl⟩ dX4_status_109
    · refine g_tin hx hb 6 (off := 88) (tgt := 110) dX4_status_22 hk (by decide) rfl (by decide) ?_
      refine lv_aload_n hx hb dX4_status_110 rfl (lv_at hl 0 rfl) ?_
      refine m_get 7 (by decide) (v := .ref (ad 7)) rfl hx hb hts hown hG (hts _ q3303) dX4_status_111 ?_
      refine lv_iconst (v := zI 2) hx hb dX4_status_114 (by decide +kernel) ?_
      refine m_iald 7 rfl rfl (by decide) 2 (v := (wMar (aWd a) : Int)) ⟨by omega, by show _ < 3; omega⟩ (show S.2.1 7 2 = (wMar (aWd a) : Int) from hX.o.mar) hx hb hG dX4_status_115 ?_
      exact m_iret hx hb hr hlocks hG (by first | (exfalso; omega) | exact ⟨by unfold opStatus; (repeat (first | rw [if_pos (by omega)] | rw [if_neg (by omega)])) <;> first | rfl | exact hX.o.seed, rfl⟩) ⟨Nat.le_of_ble_eq_true rfl, Nat.le_of_ble_eq_true rfl⟩ dX4_status_116
    · refine g_tin hx hb 7 (off := 95) (tgt := 117) dX4_status_22 hk (by decide) rfl (by decide) ?_
      refine lv_aload_n hx hb dX4_status_117 rfl (lv_at hl 0 rfl) ?_
      refine m_get 8 (by decide) (v := .int (zI (S.1 8))) rfl hx hb hts hown hG (hts _ q3304) dX4_status_118 ?_
      exact m_iret hx hb hr hlocks hG (by first | (exfalso; omega) | exact ⟨by unfold opStatus; (repeat (first | rw [if_pos (by omega)] | rw [if_neg (by omega)])) <;> first | rfl | exact hX.o.seed, rfl⟩) ⟨Nat.le_of_ble_eq_true rfl, Nat.le_of_ble_eq_true rfl⟩ dX4_status_121
    · refine g_tin hx hb 8 (off := 100) (tgt := 122) dX4_status_22 hk (by decide) rfl (by decide) ?_
      refine lv_aload_n hx hb dX4_status_122 rfl (lv_at hl 0 rfl) ?_
      refine m_get 0 (by decide) (v := .int (zI (wN (aWd a) : Int))) (congrArg (fun z => Value.int (zI z)) (show S.1 0 = (wN (aWd a) : Int) from hX.o.n)) hx hb hts hown hG (hts _ q3296) dX4_status_123 ?_
      refine g_ne (tgt := 133) hx hb dX4_status_126 (by decide) (by omega) (fun h6 => ?_) (fun h6 => ?_)
      · refine lv_aload_n hx hb dX4_status_133 rfl (lv_at hl 0 rfl) ?_
        refine m_get 2 (by decide) (v := .ref (ad 2)) rfl hx hb hts hown hG (hts _ q3298) dX4_status_134 ?_
        refine lv_aload_n hx hb dX4_status_137 rfl (lv_at hl 0 rfl) ?_
        refine m_get 0 (by decide) (v := .int (zI (wN (aWd a) : Int))) (congrArg (fun z => Value.int (zI z)) (show S.1 0 = (wN (aWd a) : Int) from hX.o.n)) hx hb hts hown hG (hts _ q3296) dX4_status_138 ?_
        refine lv_iconst (v := zI 1) hx hb dX4_status_141 (by decide +kernel) ?_
        refine g_isub hx hb dX4_status_142 ?_
        refine g_topz (y := ((wN (aWd a) - 1 : Nat) : Int)) (by omega) ?_
        refine m_iald 2 rfl rfl (by decide) (wN (aWd a) - 1) (v := ((wTx (aWd a) (wN (aWd a) - 1)).length : Int)) ⟨by omega, by show _ < 17; omega⟩ (show S.2.1 2 (wN (aWd a) - 1) = ((wTx (aWd a) (wN (aWd a) - 1)).length : Int) from (hX.o.len (by omega))) hx hb hG dX4_status_143 ?_
        exact m_iret hx hb hr hlocks hG (by first | (exfalso; omega) | exact ⟨by unfold opStatus; (repeat (first | rw [if_pos (by omega)] | rw [if_neg (by omega)])) <;> first | rfl | exact hX.o.seed, rfl⟩) ⟨Nat.le_of_ble_eq_true rfl, Nat.le_of_ble_eq_true rfl⟩ dX4_status_144
      · refine lv_iconst (v := zI 0) hx hb dX4_status_129 (by decide +kernel) ?_
        refine lv_goto (tgt := 144) hx hb dX4_status_130 (by decide) ?_
        exact m_iret hx hb hr hlocks hG (by first | (exfalso; omega) | exact ⟨by unfold opStatus; (repeat (first | rw [if_pos (by omega)] | rw [if_neg (by omega)])) <;> first | rfl | exact hX.o.seed, rfl⟩) ⟨Nat.le_of_ble_eq_true rfl, Nat.le_of_ble_eq_true rfl⟩ dX4_status_144
    · refine g_tin hx hb 9 (off := 123) (tgt := 145) dX4_status_22 hk (by decide) rfl (by decide) ?_
      refine lv_aload_n hx hb dX4_status_145 rfl (lv_at hl 0 rfl) ?_
      refine m_get 13 (by decide) (v := .int (zI ((aTr a).length : Int))) (congrArg (fun z => Value.int (zI z)) (show S.1 13 = ((aTr a).length : Int) from hX.2.2.2.2.2.1)) hx hb hts hown hG (hts _ q3309) dX4_status_146 ?_
      exact m_iret hx hb hr hlocks hG (by first | (exfalso; omega) | exact ⟨by unfold opStatus; (repeat (first | rw [if_pos (by omega)] | rw [if_neg (by omega)])) <;> first | rfl | exact hX.o.seed, rfl⟩) ⟨Nat.le_of_ble_eq_true rfl, Nat.le_of_ble_eq_true rfl⟩ dX4_status_149
    · refine g_tout (tgt := 150) hx hb dX4_status_22 (by omega) (by decide) ?_
      refine lv_iconst (v := zI (-1)) hx hb dX4_status_150 (by decide +kernel) ?_
      exact m_iret hx hb hr hlocks hG (by first | (exfalso; omega) | exact ⟨by unfold opStatus; (repeat (first | rw [if_pos (by omega)] | rw [if_neg (by omega)])) <;> first | rfl | exact hX.o.seed, rfl⟩) ⟨Nat.le_of_ble_eq_true rfl, Nat.le_of_ble_eq_true rfl⟩ dX4_status_151
  · obtain ⟨j, rfl⟩ : ∃ j : Nat, what = (j : Int) + 10 := ⟨(what - 10).toNat, by omega⟩
    refine lv_aload_n hx hb dX4_status_11 rfl (lv_at hl 0 rfl) ?_
    refine m_get 15 (by decide) (v := .ref (ad 15)) rfl hx hb hts hown hG (hts _ q3311) dX4_status_12 ?_
    refine lv_iload_n hx hb dX4_status_15 rfl (lv_at hl 1 rfl) ?_
    refine lv_bipush (v := zI 10) hx hb dX4_status_16 (by decide +kernel) ?_
    refine g_isub hx hb dX4_status_18 ?_
    refine g_topz (y := (j : Int)) (by omega) ?_
    refine m_iald 15 rfl rfl (by decide) j (v := (aRf a j)) ⟨by omega, by show _ < 8; omega⟩ (show S.2.1 15 j = (aRf a j) from (hX.2.2.2.1 j (by omega))) hx hb hG dX4_status_19 ?_
    exact m_iret hx hb hr hlocks hG (by first | (exfalso; omega) | exact ⟨by unfold opStatus; rw [if_pos (by omega), show ((j : Int) + 10 - 10).toNat = j by omega], rfl⟩) ⟨Nat.le_of_ble_eq_true rfl, Nat.le_of_ble_eq_true rfl⟩ dX4_status_20

set_option maxHeartbeats 4000000 in
theorem metX4_ran {l : Launch} {X : gX} {mo : Nat} {ad : Nat → Nat} {S : mS} {a : aS} (hX : mX S a) (hA : aOK a) {bd : Int} (hlen : (aTr a).length < 20) : Met l yX4_ran (ws_ yX4_ran cX4_ran 2 none) ({ frames := 0, cells := 0, slots := 0, locals := 0 }) (mP X mo ad S [.ref mo, .int (zI bd)]) (mQv X mo ad (fun T => mX T (aSetT a (aTr a ++ [bd])))) 0 0 (mA mo ad) := by
  refine Met.m (by decide) (Nat.le_of_ble_eq_true rfl) ?_
  intro p e s m below meth c ls hx hb hr hts hown hlocks hml hG hl
  have hl : lv_has ls 2 [(0, .ref mo), (1, .int (zI bd))] := hl
  refine lv_aload_n hx hb dX4_ran_0 rfl (lv_at hl 0 rfl) ?_
  refine m_get 13 (by decide) (v := .int (zI ((aTr a).length : Int))) (congrArg (fun z => Value.int (zI z)) (show S.1 13 = ((aTr a).length : Int) from hX.2.2.2.2.2.1)) hx hb hts hown hG (hts _ q3309) dX4_ran_1 ?_
  refine lv_bipush (v := zI 20) hx hb dX4_ran_4 (by decide +kernel) ?_
  refine g_cge (tgt := 19) hx hb dX4_ran_6 (by decide) (by omega) (fun h1 => ?_) (fun h1 => ?_)
  · exfalso; omega
  · refine lv_aload_n hx hb dX4_ran_9 rfl (lv_at hl 0 rfl) ?_
    refine m_get 14 (by decide) (v := .ref (ad 14)) rfl hx hb hts hown hG (hts _ q3310) dX4_ran_10 ?_
    refine lv_aload_n hx hb dX4_ran_13 rfl (lv_at hl 0 rfl) ?_
    refine m_get 13 (by decide) (v := .int (zI ((aTr a).length : Int))) (congrArg (fun z => Value.int (zI z)) (show S.1 13 = ((aTr a).length : Int) from hX.2.2.2.2.2.1)) hx hb hts hown hG (hts _ q3309) dX4_ran_14 ?_
    refine lv_iload_n hx hb dX4_ran_17 rfl (lv_at hl 1 rfl) ?_
    refine m_iast 14 rfl rfl (by decide) ((aTr a).length) ⟨by omega, by show _ < 20; omega⟩ hx hb hG dX4_ran_18 (fun H locs (hG : mW X mo ad (sA S 14 ((aTr a).length) bd) s H locs) => ?_)
    refine lv_aload_n hx hb dX4_ran_19 rfl (lv_at hl 0 rfl) ?_
    refine lv_dup hx hb dX4_ran_20 rfl ?_
    refine m_get 13 (by decide) (v := .int (zI ((aTr a).length : Int))) (congrArg (fun z => Value.int (zI z)) (show (sA S 14 ((aTr a).length) bd).1 13 = ((aTr a).length : Int) from hX.2.2.2.2.2.1)) hx hb hts hown hG (hts _ q3309) dX4_ran_21 ?_
    refine lv_iconst (v := zI 1) hx hb dX4_ran_24 (by decide +kernel) ?_
    refine g_iadd hx hb dX4_ran_25 ?_
    refine m_put 13 (by decide) rfl rfl (tyX4_ok 13 (by decide)) rfl rfl hx hb hts hown hG (hts _ q3309) dX4_ran_26 (fun H locs (hG : mW X mo ad (sI (sA S 14 ((aTr a).length) bd) 13 (((aTr a).length : Int) + 1)) s H locs) => ?_)
    exact m_vret hx hb hr hlocks hG (hX.ran (fun k hk q => sI_n q) (fun k hk q => sA_o q) rfl (by have q := hX.2.2.2.2.2.ran (b := bd); rw [Int.natCast_add] at q; exact q)) ⟨Nat.le_of_ble_eq_true rfl, Nat.le_of_ble_eq_true rfl⟩ dX4_ran_29

