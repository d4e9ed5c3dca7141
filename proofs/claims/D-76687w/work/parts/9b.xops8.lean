set_option maxRecDepth 100000
theorem bI_01 (b : Bool) : 0 ≤ bI b ∧ bI b ≤ 1 := by cases b <;> exact ⟨by decide, by decide⟩
theorem cnB_t {p : Nat → Bool} {n : Nat} (h : p n = true) : cnB p (n + 1) = cnB p n + 1 := by rw [cnB_S, if_pos h]
theorem cnB_f {p : Nat → Bool} {n : Nat} (h : p n = false) : cnB p (n + 1) = cnB p n := by rw [cnB_S, if_neg (by rw [h]; decide)]; rfl
theorem bI_f0 {b : Bool} (h : bI b = 0) : b = false := by cases b; rfl; exact absurd h (by decide)
theorem bI_t0 {b : Bool} (h : ¬ bI b = 0) : b = true := by cases b; exact absurd rfl h; rfl
set_option maxHeartbeats 4000000 in
theorem metX0_settledMany {l : Launch} {X : gX} {F : gF} {V : gV} {Z : va_W} {x sa rf tr tb kl wa rv rk st : Nat} {sh ra la ma : Nat → Nat} {im : Option Nat} {a : aS} (hS : xS X F V x a sa rf tr tb kl wa rv rk st sh ra la ma im) (hA : aOK a)  : Met l yX0_settledMany (ws_ yX0_settledMany cX0_settledMany 3 (some FieldType.int)) ({ frames := 0, cells := 0, slots := 0, locals := 0 }) (gP X F V (Z) [.ref x]) (gQi X (fun u G U ws => u = zI (aSettled (aWd a) : Nat) ∧ F = G ∧ V = U ∧ Z = ws)) 0 0 (gA X) := by
  refine Met.g (by decide) (Nat.le_of_ble_eq_true rfl) ?_
  intro p e s m below meth c ls hx hb hr hts hown hlocks hml hin hG hl
  have hl : lv_has ls 3 [(0, .ref x)] := hl
  have hSA := hS
  obtain ⟨hx0, ⟨fs9, hx1, hsh⟩, ⟨gr9, hx2, hgr⟩, hx3, hx4, hW, hx6, hx7⟩ := hSA
  have hSA := hS
  have hK := hA.w
  have hNN := hK.n
  have hMM := hK.m
  obtain ⟨hw0, ⟨fR, hw1, hwR⟩, ⟨fM, hw2, hwM⟩, ⟨fS, hw3, hwS⟩, hR, hMk⟩ := id hW
  have hw0 : V 4 = some (wa, oB 2 [.int (zI (wN (aWd a) : Int)), .int (zI (wM (aWd a) : Int)), .int (zI (wRun (aWd a) : Int)), .int (zI (wNeed (aWd a) : Int)), .int (zI (wMar (aWd a) : Int)), .int (wSeed (aWd a)), .ref rv, .ref rk, .ref st]) := hw0
  have hw1 : V 5 = some (rv, aR (gT X 7) 16 fR) := hw1
  have hw2 : V 6 = some (rk, aR (gT X 8) 16 fM) := hw2
  have hw3 : V 7 = some (st, aI (gT X 5) 16 fS) := hw3
  refine lv_iconst (v := zI 0) hx hb dX0_settledMany_0 (by decide +kernel) ?_
  refine lv_istore_n (lv' := [(1, .int (zI 0)), (0, .ref x)]) hx hb dX0_settledMany_1 rfl hl (by decide) rfl (fun ls hl => ?_)
  refine lv_iconst (v := zI 0) hx hb dX0_settledMany_2 (by decide +kernel) ?_
  refine lv_istore_n (lv' := [(2, .int (zI 0)), (1, .int (zI 0)), (0, .ref x)]) hx hb dX0_settledMany_3 rfl hl (by decide) rfl (fun ls hl => ?_)
  have hl : lv_has ls 3 [(2, .int (zI ((0 : Nat) : Int))), (1, .int (zI ((0 : Nat) : Int))), (0, .ref x)] := by exact hl
  refine g_loop (fun mz H locs ls => ∃ (k : Nat), (k ≤ wM (aWd a) ∧ mz = wM (aWd a) - k) ∧ gW X F V (Z) s H locs ∧ lv_has ls 3 [(0, .ref x), (1, .int (zI ((cnB (wSt (aWd a)) k : Nat) : Int))), (2, .int (zI ((k : Nat) : Int)))]) (wM (aWd a) - 0) ⟨0, ⟨Nat.zero_le _, rfl⟩, hG, (lv_sub hl [2, 1, 0] rfl)⟩ (fun mz ihA H locs ls hI => ?_)
  obtain ⟨k, ⟨hk, hmz⟩, hG, hl⟩ := hI
  have hcl := cnB_le (wSt (aWd a)) k
  refine lv_iload_n hx hb dX0_settledMany_4 rfl (lv_at hl 2 rfl) ?_
  refine lv_aload_n hx hb dX0_settledMany_5 rfl (lv_at hl 0 rfl) ?_
  refine g_get (ci := 0) hx hb hts in_X0 hown hG (hG.vo hx0) rfl 4 (Nat.le_of_ble_eq_true rfl) (hts _ q388) (fun _ h9 => h9) rfl dX0_settledMany_6 ?_
  refine g_get (ci := 2) hx hb hts in_X2 hown hG (hG.vo hw0) rfl 1 (Nat.le_of_ble_eq_true rfl) (hts _ q336) (fun _ h9 => h9) rfl dX0_settledMany_9 ?_
  refine g_cge (tgt := 41) hx hb dX0_settledMany_12 (by decide) (by omega) (fun h1 => ?_) (fun h1 => ?_)
  · have hkM : k = wM (aWd a) := by omega
    refine lv_iload_n hx hb dX0_settledMany_41 rfl (lv_at hl 1 rfl) ?_
    exact g_iret hx hb hr hlocks hG (⟨by rw [hkM] <;> rfl, rfl, rfl, rfl⟩) ⟨Nat.le_of_ble_eq_true rfl, Nat.le_of_ble_eq_true rfl⟩ dX0_settledMany_42
  · refine lv_iload_n hx hb dX0_settledMany_15 rfl (lv_at hl 1 rfl) ?_
    refine lv_aload_n hx hb dX0_settledMany_16 rfl (lv_at hl 0 rfl) ?_
    refine g_get (ci := 0) hx hb hts in_X0 hown hG (hG.vo hx0) rfl 4 (Nat.le_of_ble_eq_true rfl) (hts _ q388) (fun _ h9 => h9) rfl dX0_settledMany_17 ?_
    refine g_get (ci := 2) hx hb hts in_X2 hown hG (hG.vo hw0) rfl 8 (Nat.le_of_ble_eq_true rfl) (hts _ q353) (fun _ h9 => h9) rfl dX0_settledMany_20 ?_
    refine lv_iload_n hx hb dX0_settledMany_23 rfl (lv_at hl 2 rfl) ?_
    refine g_zald hx hb hG (hG.vo hw3) k ⟨rfl, by omega, by omega⟩ (v := zI (bI (wSt (aWd a) k))) (hwS k (by omega)) dX0_settledMany_24 ?_
    have hb1 := bI_01 (wSt (aWd a) k)
    refine g_eq (tgt := 32) hx hb dX0_settledMany_25 (by decide) (by omega) (fun h2 => ?_) (fun h2 => ?_)
    · have hb9 : wSt (aWd a) k = false := bI_f0 h2
      refine lv_iconst (v := zI 0) hx hb dX0_settledMany_32 (by decide +kernel) ?_
      refine g_iadd hx hb dX0_settledMany_33 ?_
      refine g_topz (y := ((cnB (wSt (aWd a)) (k + 1) : Nat) : Int)) (by rw [cnB_f hb9]; omega) ?_
      refine lv_istore_n (lv' := [(1, .int (zI ((cnB (wSt (aWd a)) (k + 1) : Nat) : Int))), (0, .ref x), (2, .int (zI ((k : Nat) : Int)))]) hx hb dX0_settledMany_34 rfl hl (by decide) rfl (fun ls hl => ?_)
      refine lv_iinc (v := zI (((k : Nat) : Int) + 1 : Int)) (lv' := [(2, .int (zI (((k : Nat) : Int) + 1 : Int))), (1, .int (zI ((cnB (wSt (aWd a)) (k + 1) : Nat) : Int))), (0, .ref x)]) hx hb dX0_settledMany_35 hl (k := 2) rfl ((zI_add _ _).trans (congrArg zI (by omega))) (by decide) rfl (fun ls hl => ?_)
      refine lv_goto (tgt := 4) hx hb dX0_settledMany_38 (by decide) ?_
      have hl : lv_has ls 3 [(2, .int (zI ((k + 1 : Nat) : Int))), (1, .int (zI ((cnB (wSt (aWd a)) (k + 1) : Nat) : Int))), (0, .ref x)] := by exact hl
      exact ihA (wM (aWd a) - (k + 1)) (by omega) H locs ls ⟨(k + 1), ⟨by omega, rfl⟩, hG, (lv_sub hl [2, 1, 0] rfl)⟩
    · have hb9 : wSt (aWd a) k = true := bI_t0 h2
      refine lv_iconst (v := zI 1) hx hb dX0_settledMany_28 (by decide +kernel) ?_
      refine lv_goto (tgt := 33) hx hb dX0_settledMany_29 (by decide) ?_
      refine g_iadd hx hb dX0_settledMany_33 ?_
      refine g_topz (y := ((cnB (wSt (aWd a)) (k + 1) : Nat) : Int)) (by rw [cnB_t hb9]; omega) ?_
      refine lv_istore_n (lv' := [(1, .int (zI ((cnB (wSt (aWd a)) (k + 1) : Nat) : Int))), (0, .ref x), (2, .int (zI ((k : Nat) : Int)))]) hx hb dX0_settledMany_34 rfl hl (by decide) rfl (fun ls hl => ?_)
      refine lv_iinc (v := zI (((k : Nat) : Int) + 1 : Int)) (lv' := [(2, .int (zI (((k : Nat) : Int) + 1 : Int))), (1, .int (zI ((cnB (wSt (aWd a)) (k + 1) : Nat) : Int))), (0, .ref x)]) hx hb dX0_settledMany_35 hl (k := 2) rfl ((zI_add _ _).trans (congrArg zI (by omega))) (by decide) rfl (fun ls hl => ?_)
      refine lv_goto (tgt := 4) hx hb dX0_settledMany_38 (by decide) ?_
      have hl : lv_has ls 3 [(2, .int (zI ((k + 1 : Nat) : Int))), (1, .int (zI ((cnB (wSt (aWd a)) (k + 1) : Nat) : Int))), (0, .ref x)] := by exact hl
      exact ihA (wM (aWd a) - (k + 1)) (by omega) H locs ls ⟨(k + 1), ⟨by omega, rfl⟩, hG, (lv_sub hl [2, 1, 0] rfl)⟩

set_option maxHeartbeats 4000000 in
theorem metX0_openRoots {l : Launch} {X : gX} {F : gF} {V : gV} {Z : va_W} {x sa rf tr tb kl wa rv rk st : Nat} {sh ra la ma : Nat → Nat} {im : Option Nat} {a : aS} (hS : xS X F V x a sa rf tr tb kl wa rv rk st sh ra la ma im) (hA : aOK a)  : Met l yX0_openRoots (ws_ yX0_openRoots cX0_openRoots 3 (some FieldType.int)) ({ frames := 5, cells := 64, slots := 480, locals := 114 }) (gP X F V (Z) [.ref x]) (gQi X (fun u G U ws => u = zI (aRoots (aWd a) : Nat) ∧ F = G ∧ V = U ∧ Z = ws)) 64 480 (gA X) := by
  refine Met.g (by decide) (Nat.le_of_ble_eq_true rfl) ?_
  intro p e s m below meth c ls hx hb hr hts hown hlocks hml hin hG hl
  have hl : lv_has ls 3 [(0, .ref x)] := hl
  have hSA := hS
  obtain ⟨hx0, ⟨fs9, hx1, hsh⟩, ⟨gr9, hx2, hgr⟩, hx3, hx4, hW, hx6, hx7⟩ := hSA
  have hSA := hS
  have hK := hA.w
  have hNN := hK.n
  have hMM := hK.m
  obtain ⟨hw0, ⟨fR, hw1, hwR⟩, ⟨fM, hw2, hwM⟩, ⟨fS, hw3, hwS⟩, hR, hMk⟩ := id hW
  have hw0 : V 4 = some (wa, oB 2 [.int (zI (wN (aWd a) : Int)), .int (zI (wM (aWd a) : Int)), .int (zI (wRun (aWd a) : Int)), .int (zI (wNeed (aWd a) : Int)), .int (zI (wMar (aWd a) : Int)), .int (wSeed (aWd a)), .ref rv, .ref rk, .ref st]) := hw0
  have hw1 : V 5 = some (rv, aR (gT X 7) 16 fR) := hw1
  have hw2 : V 6 = some (rk, aR (gT X 8) 16 fM) := hw2
  have hw3 : V 7 = some (st, aI (gT X 5) 16 fS) := hw3
  refine lv_iconst (v := zI 0) hx hb dX0_openRoots_0 (by decide +kernel) ?_
  refine lv_istore_n (lv' := [(1, .int (zI 0)), (0, .ref x)]) hx hb dX0_openRoots_1 rfl hl (by decide) rfl (fun ls hl => ?_)
  refine lv_iconst (v := zI 0) hx hb dX0_openRoots_2 (by decide +kernel) ?_
  refine lv_istore_n (lv' := [(2, .int (zI 0)), (1, .int (zI 0)), (0, .ref x)]) hx hb dX0_openRoots_3 rfl hl (by decide) rfl (fun ls hl => ?_)
  have hl : lv_has ls 3 [(2, .int (zI ((0 : Nat) : Int))), (1, .int (zI ((0 : Nat) : Int))), (0, .ref x)] := by exact hl
  refine g_loopA (fun mz H locs ls => ∃ (k : Nat), (k ≤ wM (aWd a) ∧ mz = wM (aWd a) - k) ∧ gW X F V (Z) s H locs ∧ lv_has ls 3 [(0, .ref x), (1, .int (zI ((cnB (fun m => (rAns (wRk (aWd a) m)).isNone && aOpen (aWd a) m) k : Nat) : Int))), (2, .int (zI ((k : Nat) : Int)))]) (wM (aWd a) - 0) 4 30 64 480 ⟨0, ⟨Nat.zero_le _, rfl⟩, hG, (lv_sub hl [2, 1, 0] rfl)⟩ ⟨by omega, by omega⟩ (fun mz ihA H locs ls cells slots hroom hI => ?_)
  obtain ⟨k, ⟨hk, hmz⟩, hG, hl⟩ := hI
  have hcl := cnB_le (fun m => (rAns (wRk (aWd a) m)).isNone && aOpen (aWd a) m) k
  refine lv_iload_n hx hb dX0_openRoots_4 rfl (lv_at hl 2 rfl) ?_
  refine lv_aload_n hx hb dX0_openRoots_5 rfl (lv_at hl 0 rfl) ?_
  refine g_get (ci := 0) hx hb hts in_X0 hown hG (hG.vo hx0) rfl 4 (Nat.le_of_ble_eq_true rfl) (hts _ q388) (fun _ h9 => h9) rfl dX0_openRoots_6 ?_
  refine g_get (ci := 2) hx hb hts in_X2 hown hG (hG.vo hw0) rfl 1 (Nat.le_of_ble_eq_true rfl) (hts _ q336) (fun _ h9 => h9) rfl dX0_openRoots_9 ?_
  refine g_cge (tgt := 56) hx hb dX0_openRoots_12 (by decide) (by omega) (fun h1 => ?_) (fun h1 => ?_)
  · have hkM : k = wM (aWd a) := by omega
    refine lv_iload_n hx hb dX0_openRoots_56 rfl (lv_at hl 1 rfl) ?_
    exact g_iret hx hb hr hlocks hG (⟨by rw [hkM] <;> rfl, rfl, rfl, rfl⟩) ⟨by omega, by omega⟩ dX0_openRoots_57
  · refine lv_iload_n hx hb dX0_openRoots_15 rfl (lv_at hl 1 rfl) ?_
    refine lv_aload_n hx hb dX0_openRoots_16 rfl (lv_at hl 0 rfl) ?_
    refine g_get (ci := 0) hx hb hts in_X0 hown hG (hG.vo hx0) rfl 4 (Nat.le_of_ble_eq_true rfl) (hts _ q388) (fun _ h9 => h9) rfl dX0_openRoots_17 ?_
    refine g_get (ci := 2) hx hb hts in_X2 hown hG (hG.vo hw0) rfl 7 (Nat.le_of_ble_eq_true rfl) (hts _ q351) (fun _ h9 => h9) rfl dX0_openRoots_20 ?_
    refine lv_iload_n hx hb dX0_openRoots_23 rfl (lv_at hl 2 rfl) ?_
    refine g_aald hx hb hG 8 rfl rfl (hG.vo hw2) k ⟨rfl, by omega, by omega⟩ (v := .ref (ma k)) (congrArg va_rf (hwM k (by omega))) dX0_openRoots_24 ?_
    have hrkk := hK.rk (m := k) (by omega)
    have hrmk := hMk k (by omega)
    have hkdk := hrkk.1
    have han9 : ∀ y9, rAns (wRk (aWd a) k) = some y9 → y9 < k := fun y9 h9 => hK.ra (by omega) h9
    refine g_rmget hx hb hkdk hts hown hG (hG.fz hrmk) 5 (by decide) (hts _ q2100) rfl dX0_openRoots_25 ?_
    have hoi : -1 ≤ oI (rAns (wRk (aWd a) k)) ∧ oI (rAns (wRk (aWd a) k)) < (k : Nat) := oI_lt han9
    refine lv_iconst (v := zI (-1)) hx hb dX0_openRoots_28 (by decide +kernel) ?_
    refine g_cne (tgt := 47) hx hb dX0_openRoots_29 (by decide) (by omega) (fun h2 => ?_) (fun h2 => ?_)
    · have hb9 : (fun m => (rAns (wRk (aWd a) m)).isNone && aOpen (aWd a) m) k = false := by show ((rAns (wRk (aWd a) k)).isNone && aOpen (aWd a) k) = false; cases hr : rAns (wRk (aWd a) k) with | none => exact absurd (by rw [hr]; rfl) h2 | some y9 => rfl
      refine lv_iconst (v := zI 0) hx hb dX0_openRoots_47 (by decide +kernel) ?_
      refine g_iadd hx hb dX0_openRoots_48 ?_
      refine g_topz (y := ((cnB (fun m => (rAns (wRk (aWd a) m)).isNone && aOpen (aWd a) m) (k + 1) : Nat) : Int)) (by rw [cnB_f hb9]; omega) ?_
      refine lv_istore_n (lv' := [(1, .int (zI ((cnB (fun m => (rAns (wRk (aWd a) m)).isNone && aOpen (aWd a) m) (k + 1) : Nat) : Int))), (0, .ref x), (2, .int (zI ((k : Nat) : Int)))]) hx hb dX0_openRoots_49 rfl hl (by decide) rfl (fun ls hl => ?_)
      refine lv_iinc (v := zI (((k : Nat) : Int) + 1 : Int)) (lv' := [(2, .int (zI (((k : Nat) : Int) + 1 : Int))), (1, .int (zI ((cnB (fun m => (rAns (wRk (aWd a) m)).isNone && aOpen (aWd a) m) (k + 1) : Nat) : Int))), (0, .ref x)]) hx hb dX0_openRoots_50 hl (k := 2) rfl ((zI_add _ _).trans (congrArg zI (by omega))) (by decide) rfl (fun ls hl => ?_)
      refine lv_goto (tgt := 4) hx hb dX0_openRoots_53 (by decide) ?_
      have hl : lv_has ls 3 [(2, .int (zI ((k + 1 : Nat) : Int))), (1, .int (zI ((cnB (fun m => (rAns (wRk (aWd a) m)).isNone && aOpen (aWd a) m) (k + 1) : Nat) : Int))), (0, .ref x)] := by exact hl
      exact ihA (wM (aWd a) - (k + 1)) (by omega) H locs ls _ _ (room_S hroom (show wM (aWd a) - (k + 1) < mz by omega)) ⟨(k + 1), ⟨by omega, rfl⟩, hG, (lv_sub hl [2, 1, 0] rfl)⟩
    · have hrn : rAns (wRk (aWd a) k) = none := oI_m1.mp (by omega)
      refine lv_aload_n hx hb dX0_openRoots_32 rfl (lv_at hl 0 rfl) ?_
      refine g_get (ci := 0) hx hb hts in_X0 hown hG (hG.vo hx0) rfl 4 (Nat.le_of_ble_eq_true rfl) (hts _ q388) (fun _ h9 => h9) rfl dX0_openRoots_33 ?_
      refine lv_iload_n hx hb dX0_openRoots_36 rfl (lv_at hl 2 rfl) ?_
      refine g_ci (va_runV (As := [.int (zI ((k : Nat) : Int))]) (rest := [.int (zI ((cnB (fun m => (rAns (wRk (aWd a) m)).isNone && aOpen (aWd a) m) k : Nat) : Int))]) ⟨hx, hb, hml, hown, hts⟩ (metX2_isOpen hW hK (by omega)) (cwV 1 hts (lw_V q2264 q2265 q2266 q100 q2267) rfl rfl rfl (by decide +kernel) ⟨Nat.le_of_ble_eq_true rfl, Nat.le_of_ble_eq_true rfl⟩) (g_preV hG (g_recv hG (hG.vo hw0) (ci := 2) rfl)) rfl rfl hl.1 rfl (lv_room (Nat.le_of_ble_eq_true rfl)) dX0_openRoots_37 ⟨by show _ ≤ 64; omega, by show _ ≤ 480; omega⟩) hG (fun r_1 F_2 V_3 ws_ H locs hp hG => ?_)
      obtain ⟨rfl, rfl, rfl, rfl⟩ := hp
      have hG : gW X F V (Z) s H locs := hG
      have hb1 := bI_01 (aOpen (aWd a) k)
      refine g_eq (tgt := 47) hx hb dX0_openRoots_40 (by decide) (by omega) (fun h3 => ?_) (fun h3 => ?_)
      · have hb9 : (fun m => (rAns (wRk (aWd a) m)).isNone && aOpen (aWd a) m) k = false := by show ((rAns (wRk (aWd a) k)).isNone && aOpen (aWd a) k) = false; rw [bI_f0 h3, Bool.and_false]
        refine lv_iconst (v := zI 0) hx hb dX0_openRoots_47 (by decide +kernel) ?_
        refine g_iadd hx hb dX0_openRoots_48 ?_
        refine g_topz (y := ((cnB (fun m => (rAns (wRk (aWd a) m)).isNone && aOpen (aWd a) m) (k + 1) : Nat) : Int)) (by rw [cnB_f hb9]; omega) ?_
        refine lv_istore_n (lv' := [(1, .int (zI ((cnB (fun m => (rAns (wRk (aWd a) m)).isNone && aOpen (aWd a) m) (k + 1) : Nat) : Int))), (0, .ref x), (2, .int (zI ((k : Nat) : Int)))]) hx hb dX0_openRoots_49 rfl hl (by decide) rfl (fun ls hl => ?_)
        refine lv_iinc (v := zI (((k : Nat) : Int) + 1 : Int)) (lv' := [(2, .int (zI (((k : Nat) : Int) + 1 : Int))), (1, .int (zI ((cnB (fun m => (rAns (wRk (aWd a) m)).isNone && aOpen (aWd a) m) (k + 1) : Nat) : Int))), (0, .ref x)]) hx hb dX0_openRoots_50 hl (k := 2) rfl ((zI_add _ _).trans (congrArg zI (by omega))) (by decide) rfl (fun ls hl => ?_)
        refine lv_goto (tgt := 4) hx hb dX0_openRoots_53 (by decide) ?_
        have hl : lv_has ls 3 [(2, .int (zI ((k + 1 : Nat) : Int))), (1, .int (zI ((cnB (fun m => (rAns (wRk (aWd a) m)).isNone && aOpen (aWd a) m) (k + 1) : Nat) : Int))), (0, .ref x)] := by exact hl
        exact ihA (wM (aWd a) - (k + 1)) (by omega) H locs ls _ _ (room_U hroom (show wM (aWd a) - (k + 1) < mz by omega)) ⟨(k + 1), ⟨by omega, rfl⟩, hG, (lv_sub hl [2, 1, 0] rfl)⟩
      · have hb9 : (fun m => (rAns (wRk (aWd a) m)).isNone && aOpen (aWd a) m) k = true := by show ((rAns (wRk (aWd a) k)).isNone && aOpen (aWd a) k) = true; rw [bI_t0 h3, hrn]; rfl
        refine lv_iconst (v := zI 1) hx hb dX0_openRoots_43 (by decide +kernel) ?_
        refine lv_goto (tgt := 48) hx hb dX0_openRoots_44 (by decide) ?_
        refine g_iadd hx hb dX0_openRoots_48 ?_
        refine g_topz (y := ((cnB (fun m => (rAns (wRk (aWd a) m)).isNone && aOpen (aWd a) m) (k + 1) : Nat) : Int)) (by rw [cnB_t hb9]; omega) ?_
        refine lv_istore_n (lv' := [(1, .int (zI ((cnB (fun m => (rAns (wRk (aWd a) m)).isNone && aOpen (aWd a) m) (k + 1) : Nat) : Int))), (0, .ref x), (2, .int (zI ((k : Nat) : Int)))]) hx hb dX0_openRoots_49 rfl hl (by decide) rfl (fun ls hl => ?_)
        refine lv_iinc (v := zI (((k : Nat) : Int) + 1 : Int)) (lv' := [(2, .int (zI (((k : Nat) : Int) + 1 : Int))), (1, .int (zI ((cnB (fun m => (rAns (wRk (aWd a) m)).isNone && aOpen (aWd a) m) (k + 1) : Nat) : Int))), (0, .ref x)]) hx hb dX0_openRoots_50 hl (k := 2) rfl ((zI_add _ _).trans (congrArg zI (by omega))) (by decide) rfl (fun ls hl => ?_)
        refine lv_goto (tgt := 4) hx hb dX0_openRoots_53 (by decide) ?_
        have hl : lv_has ls 3 [(2, .int (zI ((k + 1 : Nat) : Int))), (1, .int (zI ((cnB (fun m => (rAns (wRk (aWd a) m)).isNone && aOpen (aWd a) m) (k + 1) : Nat) : Int))), (0, .ref x)] := by exact hl
        exact ihA (wM (aWd a) - (k + 1)) (by omega) H locs ls _ _ (room_U hroom (show wM (aWd a) - (k + 1) < mz by omega)) ⟨(k + 1), ⟨by omega, rfl⟩, hG, (lv_sub hl [2, 1, 0] rfl)⟩

