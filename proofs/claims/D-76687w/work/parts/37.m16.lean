set_option maxRecDepth 100000
def bt1 (z : Int) : Int32 := zI 1 <<< (zI z &&& 31)
def btI (P : Nat → Bool) : Nat → Int32
  | 0 => zI 0
  | n + 1 => if P n = true then btI P n ||| bt1 n else btI P n
section G5
variable {p : Program} {l : Launch} {e : Env} {R : Room} {s : State} {m : MethodId} {args : Array Value} {below : List Frame} {meth : Method} {c : Code} {H : Heap} {locs : List Loc} {cells slots : Nat} {Q : State → Prop}
variable {pc : Nat} {ls : Array Slot} {rest : List Value}
theorem lv_topx {x : Int32} (y : Int32) (h : x = y) (k : W p l e R s m args below meth c H locs cells slots Q (F0 m pc ls (.int y :: rest))) : W p l e R s m args below meth c H locs cells slots Q (F0 m pc ls (.int x :: rest)) := h ▸ k
end G5
theorem btI_cg {P Q : Nat → Bool} : ∀ {n}, (∀ i, i < n → P i = Q i) → btI P n = btI Q n := by
  intro n
  induction n with
  | zero => intro _; rfl
  | succ n ih => intro h; rw [btI, btI, ih (fun i hi => h i (by omega)), h n (by omega)]
theorem btI_or {P : Nat → Bool} {i : Nat} : ∀ {n}, i < n → btI P n ||| bt1 i = btI (fun j => P j || decide (j = i)) n := by
  intro n
  induction n with
  | zero => intro h; omega
  | succ n ih =>
    intro h
    rw [btI, btI]
    by_cases hin : i = n
    · subst hin
      have e1 : (P i || decide (i = i)) = true := by rw [decide_eq_true rfl, Bool.or_true]
      show (if P i = true then btI P i ||| bt1 i else btI P i) ||| bt1 i = (if (P i || decide (i = i)) = true then btI (fun j => P j || decide (j = i)) i ||| bt1 i else btI (fun j => P j || decide (j = i)) i)
      rw [if_pos e1, btI_cg (P := fun j => P j || decide (j = i)) (Q := P) (n := i) (fun j hj => by show (P j || decide (j = i)) = P j; rw [decide_eq_false (by omega), Bool.or_false])]
      by_cases hp : P i = true
      · rw [if_pos hp, Int32.or_assoc, Int32.or_self]
      · rw [if_neg hp]
    · rw [← ih (by omega)]
      have e : (P n || decide (n = i)) = P n := by rw [decide_eq_false (by omega), Bool.or_false]
      rw [e]
      by_cases hp : P n = true
      · rw [if_pos hp, if_pos hp, Int32.or_assoc, Int32.or_assoc, Int32.or_comm (bt1 n) (bt1 i)]
      · rw [if_neg hp, if_neg hp]
def opFitting (a : aS) (x y : Int) : Int32 × aS := if ¬ ((0 ≤ x ∧ x < wM (aWd a)) ∧ 0 ≤ y ∧ y < wN (aWd a)) then (zI (-(1 : Nat)), aNo a 1) else match beh (wFo (aWd a)) y.toNat (rOn (wRk (aWd a) x.toNat)) with
  | none => (zI (-(6 : Nat)), aNo a 6)
  | some n => (btI (fun k => decide (kHow (wkTo (aWd a) (wRk (aWd a) x.toNat) k y.toNat n n) ≠ 3)) 7, a)
theorem mX.noB {S : mS} {a : aS} {r : Int32 × aS} (j : Nat) (e : r = (zI (-(j : Int)), aNo a j)) (h : mX S a) : zI (-(j : Int)) = r.1 ∧ mX (mNo S j) r.2 := by rw [e]; exact ⟨rfl, h.no j⟩
theorem mX.castB {S : mS} {a : aS} {r : Int32 × aS} {z : Int32} (e : r = (z, a)) (h : mX S a) : z = r.1 ∧ mX S r.2 := by rw [e]; exact ⟨rfl, h⟩
def whoB (w : aW) (y : Nat) (what : Int) (m : Nat) : Bool := match beh (wFo w) y (rOn (wRk w m)) with
  | none => false
  | some n => decide (kHow (wkF w m y n n) = 3 ↔ what = 1)
def inPut (o : Option (Nat × Nat)) (i : Nat) : Bool := match o with
  | none => false
  | some pq => decide (pq.1 ≤ i ∧ i ≤ pq.2)
def opCovered (a : aS) (y : Int) : Int32 × aS := if ¬ (0 ≤ y ∧ y < wN (aWd a)) then (zI (-(1 : Nat)), aNo a 1) else (btI (fun i => anB (fun m => inPut (wPut (aWd a) y.toNat m) i) (wM (aWd a))) 24, a)
def hcN (w : aW) (y i : Nat) : Nat := cnB (fun m => inPut (wPut w y m) i) (wM w)
def aHeat (w : aW) (y : Nat) : Int := match bsS (hcN w y) 24 with
  | none => 0
  | some b => if hcN w y b = 0 then 99 else (b : Nat)
def opWho (a : aS) (y what : Int) : Int32 × aS := if ¬ (0 ≤ y ∧ y < wN (aWd a)) then (zI (-(1 : Nat)), aNo a 1) else if ¬ (0 ≤ what ∧ what ≤ 2) then (zI (-(5 : Nat)), aNo a 5) else if what = 2 then (zI (aHeat (aWd a) y.toNat), a) else (btI (whoB (aWd a) y.toNat what) (wM (aWd a)), a)
set_option maxHeartbeats 4000000 in
theorem metX4_fitting {l : Launch} {X : gX} {mo : Nat} {ad : Nat → Nat} {S : mS} {a : aS} (hX : mX S a) (hA : aOK a) {x y : Int} (hr0 : -2147483648 ≤ x ∧ x < 2147483648 ∧ -2147483648 ≤ y ∧ y < 2147483648) : Met l yX4_fitting (ws_ yX4_fitting cX4_fitting 5 (some FieldType.int)) ({ frames := 5, cells := 0, slots := 0, locals := 122 }) (mP X mo ad S [.ref mo, .int (zI x), .int (zI y)]) (mQi X mo ad (fun u T => u = (opFitting a x y).1 ∧ mX T (opFitting a x y).2)) 0 0 (mA mo ad) := by
  refine Met.m (by decide) (Nat.le_of_ble_eq_true rfl) ?_
  intro p e s m below meth c ls hx hb hr hts hown hlocks hml hG hl
  have hl : lv_has ls 5 [(0, .ref mo), (1, .int (zI x)), (2, .int (zI y))] := hl
  have hNN := hA.w.n
  have hMM := hA.w.m
  refine lv_aload_n hx hb dX4_fitting_0 rfl (lv_at hl 0 rfl) ?_
  refine lv_iload_n hx hb dX4_fitting_1 rfl (lv_at hl 1 rfl) ?_
  have hq1 := hX.o.m
  have hQ1 := hA.w.m
  refine m_ci (va_runV (As := [.int (zI x)]) (rest := []) ⟨hx, hb, hml, hown, hts⟩ (metX4_isRemark (by omega) (by omega)) (cwV 1 hts (lw_V q3455 q3457 qs46 q102 q3458) rfl rfl rfl (by decide +kernel) ⟨Nat.le_of_ble_eq_true rfl, Nat.le_of_ble_eq_true rfl⟩) (m_preV hG) rfl rfl hl.1 rfl (lv_room (Nat.le_of_ble_eq_true rfl)) dX4_fitting_2 ⟨Nat.le_of_ble_eq_true rfl, Nat.le_of_ble_eq_true rfl⟩) hG (fun r_1 S_2 H locs hp hG => ?_)
  obtain ⟨b1, rfl, hb1, rfl⟩ := hp
  have hG : mW X mo ad S s H locs := hG
  refine g_eq (tgt := 16) hx hb dX4_fitting_5 (by decide) (by omega) (fun h2 => ?_) (fun h2 => ?_)
  · refine lv_aload_n hx hb dX4_fitting_16 rfl (lv_at hl 0 rfl) ?_
    refine lv_iconst (v := zI (-1)) hx hb dX4_fitting_17 (by decide +kernel) ?_
    refine g_topz (y := -((1 : Nat) : Int)) (by decide) ?_
    refine m_ci (va_runV (As := [.int (zI (-((1 : Nat) : Int)))]) (rest := []) ⟨hx, hb, hml, hown, hts⟩ (metX4_no 1 (by decide)) (cwV 1 hts (lw_V q3427 q3429 qs43 q102 q3430) rfl rfl rfl (by decide +kernel) ⟨Nat.le_of_ble_eq_true rfl, Nat.le_of_ble_eq_true rfl⟩) (m_preV hG) rfl rfl hl.1 rfl (lv_room (Nat.le_of_ble_eq_true rfl)) dX4_fitting_18 ⟨Nat.le_of_ble_eq_true rfl, Nat.le_of_ble_eq_true rfl⟩) hG (fun r_3 S_4 H locs hp hG => ?_)
    obtain ⟨rfl, rfl⟩ := hp
    have hG : mW X mo ad (mNo S 1) s H locs := hG
    exact m_iret hx hb hr hlocks hG (by first | (exfalso; omega) | exact (hX.noB 1 (by unfold opFitting; all_goals ((repeat (first | rw [if_pos (by omega)] | rw [if_neg (by omega)])) <;> rfl)))) ⟨Nat.le_of_ble_eq_true rfl, Nat.le_of_ble_eq_true rfl⟩ dX4_fitting_21
  · refine lv_aload_n hx hb dX4_fitting_8 rfl (lv_at hl 0 rfl) ?_
    refine lv_iload_n hx hb dX4_fitting_9 rfl (lv_at hl 2 rfl) ?_
    have hq3 := hX.o.n
    have hQ3 := hA.w.n
    refine m_ci (va_runV (As := [.int (zI y)]) (rest := []) ⟨hx, hb, hml, hown, hts⟩ (metX4_isRevision (by omega) (by omega)) (cwV 1 hts (lw_V q3481 q3483 qs48 q102 q3484) rfl rfl rfl (by decide +kernel) ⟨Nat.le_of_ble_eq_true rfl, Nat.le_of_ble_eq_true rfl⟩) (m_preV hG) rfl rfl hl.1 rfl (lv_room (Nat.le_of_ble_eq_true rfl)) dX4_fitting_10 ⟨Nat.le_of_ble_eq_true rfl, Nat.le_of_ble_eq_true rfl⟩) hG (fun r_5 S_6 H locs hp hG => ?_)
    obtain ⟨b3, rfl, hb3, rfl⟩ := hp
    have hG : mW X mo ad S s H locs := hG
    refine g_ne (tgt := 22) hx hb dX4_fitting_13 (by decide) (by omega) (fun h4 => ?_) (fun h4 => ?_)
    · obtain ⟨x1, rfl⟩ : ∃ n9 : Nat, x = n9 := ⟨x.toNat, by omega⟩
      obtain ⟨y1, rfl⟩ : ∃ n9 : Nat, y = n9 := ⟨y.toNat, by omega⟩
      refine lv_aload_n hx hb dX4_fitting_22 rfl (lv_at hl 0 rfl) ?_
      refine lv_iload_n hx hb dX4_fitting_23 rfl (lv_at hl 2 rfl) ?_
      refine lv_aload_n hx hb dX4_fitting_24 rfl (lv_at hl 0 rfl) ?_
      refine lv_iconst (v := zI 2) hx hb dX4_fitting_25 (by decide +kernel) ?_
      refine lv_iload_n hx hb dX4_fitting_26 rfl (lv_at hl 1 rfl) ?_
      refine m_ci (va_runV (As := [.int (zI 2), .int (zI (x1 : Int))]) (rest := [.int (zI (y1 : Int)), .ref mo]) ⟨hx, hb, hml, hown, hts⟩ (metX4_of 2 (m0 := x1) (by omega)) (cwV 2 hts (lw_V q3467 q3469 qs47 q102 q3470) rfl rfl rfl (by decide +kernel) ⟨Nat.le_of_ble_eq_true rfl, Nat.le_of_ble_eq_true rfl⟩) (m_preV hG) rfl rfl hl.1 rfl (lv_room (Nat.le_of_ble_eq_true rfl)) dX4_fitting_27 ⟨Nat.le_of_ble_eq_true rfl, Nat.le_of_ble_eq_true rfl⟩) hG (fun r_7 S_8 H locs hp hG => ?_)
      obtain ⟨rfl, rfl⟩ := hp
      have hG : mW X mo ad S s H locs := hG
      refine g_topz (y := (rOn (wRk (aWd a) x1) : Int)) (hX.o.on (m := x1) (by omega)) ?_
      have hv5 := hA.w.rk (m := x1) (by omega)
      refine m_ci (va_runV (As := [.int (zI (y1 : Int)), .int (zI (rOn (wRk (aWd a) x1) : Int))]) (rest := []) ⟨hx, hb, hml, hown, hts⟩ (metX4_behind (t := y1) (r := rOn (wRk (aWd a) x1)) hX.o hA.w (by omega) (by omega)) (cwV 2 hts (lw_V q3563 q3565 qs60 q102 q3566) rfl rfl rfl (by decide +kernel) ⟨Nat.le_of_ble_eq_true rfl, Nat.le_of_ble_eq_true rfl⟩) (m_preV hG) rfl rfl hl.1 rfl (lv_room (Nat.le_of_ble_eq_true rfl)) dX4_fitting_30 ⟨Nat.le_of_ble_eq_true rfl, Nat.le_of_ble_eq_true rfl⟩) hG (fun r_9 S_10 H locs hp hG => ?_)
      obtain ⟨rfl, har, hch⟩ := hp
      have hG : mW X mo ad S_10 s H locs := hG
      have hre := har.real (by decide)
      rcases hbh : beh (wFo (aWd a)) y1 (rOn (wRk (aWd a) x1)) with _ | n
      · refine g_topz (x := oI none) (y := -1) rfl ?_
        refine lv_iconst (v := zI (-1)) hx hb dX4_fitting_33 (by decide +kernel) ?_
        refine g_cne (tgt := 44) hx hb dX4_fitting_34 (by decide) (by omega) (fun h6 => ?_) (fun h6 => ?_)
        · exfalso; omega
        · refine lv_aload_n hx hb dX4_fitting_37 rfl (lv_at hl 0 rfl) ?_
          refine lv_bipush (v := zI (-6)) hx hb dX4_fitting_38 (by decide +kernel) ?_
          refine g_topz (y := -((6 : Nat) : Int)) (by decide) ?_
          refine m_ci (va_runV (As := [.int (zI (-((6 : Nat) : Int)))]) (rest := []) ⟨hx, hb, hml, hown, hts⟩ (metX4_no 6 (by decide)) (cwV 1 hts (lw_V q3427 q3429 qs43 q102 q3430) rfl rfl rfl (by decide +kernel) ⟨Nat.le_of_ble_eq_true rfl, Nat.le_of_ble_eq_true rfl⟩) (m_preV hG) rfl rfl hl.1 rfl (lv_room (Nat.le_of_ble_eq_true rfl)) dX4_fitting_40 ⟨Nat.le_of_ble_eq_true rfl, Nat.le_of_ble_eq_true rfl⟩) hG (fun r_11 S_12 H locs hp hG => ?_)
          obtain ⟨rfl, rfl⟩ := hp
          have hG : mW X mo ad (mNo S_10 6) s H locs := hG
          exact m_iret hx hb hr hlocks hG ((hX.real hre).noB 6 (by unfold opFitting; (repeat (first | rw [if_pos (by omega)] | rw [if_neg (by omega)])); simp only [Int.toNat_natCast, hbh])) ⟨Nat.le_of_ble_eq_true rfl, Nat.le_of_ble_eq_true rfl⟩ dX4_fitting_43
      · have hln := (beh_anc hA.w.fo n y1 _ hbh).1 n (Nat.le_refl n)
        refine g_topz (x := oI (some n)) (y := (n : Int)) rfl ?_
        refine lv_iconst (v := zI (-1)) hx hb dX4_fitting_33 (by decide +kernel) ?_
        refine g_cne (tgt := 44) hx hb dX4_fitting_34 (by decide) (by omega) (fun h6 => ?_) (fun h6 => ?_)
        · refine lv_iconst (v := zI 0) hx hb dX4_fitting_44 (by decide +kernel) ?_
          refine lv_istore_n (lv' := [(3, .int (zI 0)), (0, .ref mo), (1, .int (zI (x1 : Int))), (2, .int (zI (y1 : Int)))]) hx hb dX4_fitting_45 rfl hl (by decide) rfl (fun ls hl => ?_)
          refine lv_iconst (v := zI 0) hx hb dX4_fitting_46 (by decide +kernel) ?_
          refine lv_istore (lv' := [(4, .int (zI 0)), (3, .int (zI 0)), (0, .ref mo), (1, .int (zI (x1 : Int))), (2, .int (zI (y1 : Int)))]) hx hb dX4_fitting_47 hl (by decide) rfl (fun ls hl => ?_)
          refine g_loop (fun mz H locs ls => ∃ (k : Nat) (T : mS), (k ≤ 7 ∧ mz = 7 - k ∧ mReal S T) ∧ mW X mo ad T s H locs ∧ lv_has ls 5 [(0, .ref mo), (1, .int (zI (x1 : Int))), (2, .int (zI (y1 : Int))), (3, .int (btI (fun k => decide (kHow (wkTo (aWd a) (wRk (aWd a) x1) k y1 n n) ≠ 3)) k)), (4, .int (zI (k : Int)))]) (7 - 0) ⟨0, S_10, ⟨by omega, rfl, hre⟩, hG, (lv_sub hl [2, 3, 4, 1, 0] rfl)⟩ (fun mz ihA H locs ls hI => ?_)
          obtain ⟨k, T, ⟨hk, hmz, hre⟩, hG, hl⟩ := hI
          refine lv_iload hx hb dX4_fitting_49 (lv_at hl 4 rfl) ?_
          refine lv_bipush (v := zI 7) hx hb dX4_fitting_51 (by decide +kernel) ?_
          refine g_cge (tgt := 87) hx hb dX4_fitting_53 (by decide) (by omega) (fun h7 => ?_) (fun h7 => ?_)
          · refine lv_iload_n hx hb dX4_fitting_87 rfl (lv_at hl 3 rfl) ?_
            exact m_iret hx hb hr hlocks hG (mX.castB (by unfold opFitting; (repeat (first | rw [if_pos (by omega)] | rw [if_neg (by omega)])); simp only [Int.toNat_natCast, hbh]; rw [show k = 7 by omega]) (hX.real hre)) ⟨Nat.le_of_ble_eq_true rfl, Nat.le_of_ble_eq_true rfl⟩ dX4_fitting_88
          · refine lv_aload_n hx hb dX4_fitting_56 rfl (lv_at hl 0 rfl) ?_
            refine lv_iload_n hx hb dX4_fitting_57 rfl (lv_at hl 1 rfl) ?_
            refine lv_iload hx hb dX4_fitting_58 (lv_at hl 4 rfl) ?_
            refine lv_iload_n hx hb dX4_fitting_60 rfl (lv_at hl 2 rfl) ?_
            refine lv_iconst (v := zI 0) hx hb dX4_fitting_61 (by decide +kernel) ?_
            refine m_ci (va_runV (As := [.int (zI (x1 : Int)), .int (zI (k : Int)), .int (zI (y1 : Int)), .int (zI 0)]) (rest := []) ⟨hx, hb, hml, hown, hts⟩ (metX4_puts (x := x1) (kd := k) (t := y1) (le := 0) (hX.real hre).o hA.w (by omega) (by omega) (by omega) (fun _ _ => Nat.zero_le _)) (cwV 4 hts (lw_V q3611 q3613 qs67 q102 q3614) rfl rfl rfl (by decide +kernel) ⟨Nat.le_of_ble_eq_true rfl, Nat.le_of_ble_eq_true rfl⟩) (m_preV hG) rfl rfl hl.1 rfl (lv_room (Nat.le_of_ble_eq_true rfl)) dX4_fitting_62 ⟨Nat.le_of_ble_eq_true rfl, Nat.le_of_ble_eq_true rfl⟩) hG (fun r_13 S_14 H locs hp hG => ?_)
            obtain ⟨b1, rfl, hb1, hre1, hpl1⟩ := hp
            have hG : mW X mo ad S_14 s H locs := hG
            have hre2 := hre.tr hre1
            rcases hb1 with ⟨rfl, nn, hbh2, hW⟩ | ⟨rfl, hbh2⟩
            · have hnn : nn = n := by rw [hbh] at hbh2; cases hbh2; rfl
              subst hnn
              have hW : mWk S_14 (aWd a) (wkTo (aWd a) (wRk (aWd a) x1) k y1 nn nn) := hW
              have hh3 := hW.2.2.2.2
              refine lv_pop hx hb dX4_fitting_65 rfl ?_
              refine lv_aload_n hx hb dX4_fitting_66 rfl (lv_at hl 0 rfl) ?_
              refine m_get 33 (by decide) (v := .int (zI (kHow (wkTo (aWd a) (wRk (aWd a) x1) k y1 nn nn) : Int))) (congrArg (fun z => Value.int (zI z)) (show S_14.1 33 = (kHow (wkTo (aWd a) (wRk (aWd a) x1) k y1 nn nn) : Int) from hW.1)) hx hb hts hown hG (hts _ q3329) dX4_fitting_67 ?_
              refine lv_iconst (v := zI 3) hx hb dX4_fitting_70 (by decide +kernel) ?_
              refine g_ceq (tgt := 81) hx hb dX4_fitting_71 (by decide) (by omega) (fun h9 => ?_) (fun h9 => ?_)
              · have hl : lv_has ls 5 [(0, .ref mo), (1, .int (zI (x1 : Int))), (2, .int (zI (y1 : Int))), (3, .int (btI (fun k => decide (kHow (wkTo (aWd a) (wRk (aWd a) x1) k y1 nn nn) ≠ 3)) (k + 1))), (4, .int (zI (k : Int)))] := by rw [show btI (fun k => decide (kHow (wkTo (aWd a) (wRk (aWd a) x1) k y1 nn nn) ≠ 3)) (k + 1) = btI (fun k => decide (kHow (wkTo (aWd a) (wRk (aWd a) x1) k y1 nn nn) ≠ 3)) k from by rw [btI, if_neg (by rw [decide_eq_true_iff]; omega)]]; exact hl
                refine lv_iinc (v := zI ((k : Int) + 1 : Int)) (lv' := [(4, .int (zI ((k : Int) + 1 : Int))), (0, .ref mo), (1, .int (zI (x1 : Int))), (2, .int (zI (y1 : Int))), (3, .int (btI (fun k => decide (kHow (wkTo (aWd a) (wRk (aWd a) x1) k y1 nn nn) ≠ 3)) (k + 1)))]) hx hb dX4_fitting_81 hl (k := 4) rfl ((zI_add _ _).trans (congrArg zI (by omega))) (by decide) rfl (fun ls hl => ?_)
                refine lv_goto (tgt := 49) hx hb dX4_fitting_84 (by decide) ?_
                exact ihA (7 - (k + 1)) (by omega) H locs ls ⟨(k + 1), S_14, ⟨by omega, rfl, hre2⟩, hG, (lv_sub hl [1, 2, 3, 4, 0] rfl)⟩
              · refine lv_iload_n hx hb dX4_fitting_74 rfl (lv_at hl 3 rfl) ?_
                refine lv_iconst (v := zI 1) hx hb dX4_fitting_75 (by decide +kernel) ?_
                refine lv_iload hx hb dX4_fitting_76 (lv_at hl 4 rfl) ?_
                refine lv_ishl hx hb dX4_fitting_78 ?_
                refine lv_topx (bt1 (k : Int)) rfl ?_
                refine lv_ior hx hb dX4_fitting_79 ?_
                refine lv_istore_n (lv' := [(3, .int ((btI (fun k => decide (kHow (wkTo (aWd a) (wRk (aWd a) x1) k y1 nn nn) ≠ 3)) k) ||| (bt1 (k : Int)))), (0, .ref mo), (1, .int (zI (x1 : Int))), (2, .int (zI (y1 : Int))), (4, .int (zI (k : Int)))]) hx hb dX4_fitting_80 rfl hl (by decide) rfl (fun ls hl => ?_)
                have hl : lv_has ls 5 [(3, .int (btI (fun k => decide (kHow (wkTo (aWd a) (wRk (aWd a) x1) k y1 nn nn) ≠ 3)) (k + 1))), (0, .ref mo), (1, .int (zI (x1 : Int))), (2, .int (zI (y1 : Int))), (4, .int (zI (k : Int)))] := by rw [show btI (fun k => decide (kHow (wkTo (aWd a) (wRk (aWd a) x1) k y1 nn nn) ≠ 3)) (k + 1) = btI (fun k => decide (kHow (wkTo (aWd a) (wRk (aWd a) x1) k y1 nn nn) ≠ 3)) k ||| bt1 k from by rw [btI, if_pos (by rw [decide_eq_true_iff]; omega)]]; exact hl
                refine lv_iinc (v := zI ((k : Int) + 1 : Int)) (lv' := [(4, .int (zI ((k : Int) + 1 : Int))), (3, .int (btI (fun k => decide (kHow (wkTo (aWd a) (wRk (aWd a) x1) k y1 nn nn) ≠ 3)) (k + 1))), (0, .ref mo), (1, .int (zI (x1 : Int))), (2, .int (zI (y1 : Int)))]) hx hb dX4_fitting_81 hl (k := 4) rfl ((zI_add _ _).trans (congrArg zI (by omega))) (by decide) rfl (fun ls hl => ?_)
                refine lv_goto (tgt := 49) hx hb dX4_fitting_84 (by decide) ?_
                exact ihA (7 - (k + 1)) (by omega) H locs ls ⟨(k + 1), S_14, ⟨by omega, rfl, hre2⟩, hG, (lv_sub hl [2, 3, 4, 1, 0] rfl)⟩
            · rw [hbh] at hbh2; cases hbh2
        · exfalso; omega
    · refine lv_aload_n hx hb dX4_fitting_16 rfl (lv_at hl 0 rfl) ?_
      refine lv_iconst (v := zI (-1)) hx hb dX4_fitting_17 (by decide +kernel) ?_
      refine g_topz (y := -((1 : Nat) : Int)) (by decide) ?_
      refine m_ci (va_runV (As := [.int (zI (-((1 : Nat) : Int)))]) (rest := []) ⟨hx, hb, hml, hown, hts⟩ (metX4_no 1 (by decide)) (cwV 1 hts (lw_V q3427 q3429 qs43 q102 q3430) rfl rfl rfl (by decide +kernel) ⟨Nat.le_of_ble_eq_true rfl, Nat.le_of_ble_eq_true rfl⟩) (m_preV hG) rfl rfl hl.1 rfl (lv_room (Nat.le_of_ble_eq_true rfl)) dX4_fitting_18 ⟨Nat.le_of_ble_eq_true rfl, Nat.le_of_ble_eq_true rfl⟩) hG (fun r_15 S_16 H locs hp hG => ?_)
      obtain ⟨rfl, rfl⟩ := hp
      have hG : mW X mo ad (mNo S 1) s H locs := hG
      exact m_iret hx hb hr hlocks hG (by first | (exfalso; omega) | exact (hX.noB 1 (by unfold opFitting; all_goals ((repeat (first | rw [if_pos (by omega)] | rw [if_neg (by omega)])) <;> rfl)))) ⟨Nat.le_of_ble_eq_true rfl, Nat.le_of_ble_eq_true rfl⟩ dX4_fitting_21

set_option maxHeartbeats 4000000 in
theorem metX4_covered {l : Launch} {X : gX} {mo : Nat} {ad : Nat → Nat} {S : mS} {a : aS} (hX : mX S a) (hA : aOK a) {y : Int} (hr0 : -2147483648 ≤ y ∧ y < 2147483648) : Met l yX4_covered (ws_ yX4_covered cX4_covered 5 (some FieldType.int)) ({ frames := 6, cells := 0, slots := 0, locals := 144 }) (mP X mo ad S [.ref mo, .int (zI y)]) (mQi X mo ad (fun u T => u = (opCovered a y).1 ∧ mX T (opCovered a y).2)) 0 0 (mA mo ad) := by
  refine Met.m (by decide) (Nat.le_of_ble_eq_true rfl) ?_
  intro p e s m below meth c ls hx hb hr hts hown hlocks hml hG hl
  have hl : lv_has ls 5 [(0, .ref mo), (1, .int (zI y))] := hl
  have hNN := hA.w.n
  have hMM := hA.w.m
  refine lv_aload_n hx hb dX4_covered_0 rfl (lv_at hl 0 rfl) ?_
  refine lv_iload_n hx hb dX4_covered_1 rfl (lv_at hl 1 rfl) ?_
  have hq1 := hX.o.n
  have hQ1 := hA.w.n
  refine m_ci (va_runV (As := [.int (zI y)]) (rest := []) ⟨hx, hb, hml, hown, hts⟩ (metX4_isRevision (by omega) (by omega)) (cwV 1 hts (lw_V q3481 q3483 qs48 q102 q3484) rfl rfl rfl (by decide +kernel) ⟨Nat.le_of_ble_eq_true rfl, Nat.le_of_ble_eq_true rfl⟩) (m_preV hG) rfl rfl hl.1 rfl (lv_room (Nat.le_of_ble_eq_true rfl)) dX4_covered_2 ⟨Nat.le_of_ble_eq_true rfl, Nat.le_of_ble_eq_true rfl⟩) hG (fun r_1 S_2 H locs hp hG => ?_)
  obtain ⟨b1, rfl, hb1, rfl⟩ := hp
  have hG : mW X mo ad S s H locs := hG
  refine g_ne (tgt := 14) hx hb dX4_covered_5 (by decide) (by omega) (fun h2 => ?_) (fun h2 => ?_)
  · obtain ⟨y1, rfl⟩ : ∃ n9 : Nat, y = n9 := ⟨y.toNat, by omega⟩
    refine lv_iconst (v := zI 0) hx hb dX4_covered_14 (by decide +kernel) ?_
    refine lv_istore_n (lv' := [(2, .int (zI 0)), (0, .ref mo), (1, .int (zI (y1 : Int)))]) hx hb dX4_covered_15 rfl hl (by decide) rfl (fun ls hl => ?_)
    refine lv_iconst (v := zI 0) hx hb dX4_covered_16 (by decide +kernel) ?_
    refine lv_istore_n (lv' := [(3, .int (zI 0)), (2, .int (zI 0)), (0, .ref mo), (1, .int (zI (y1 : Int)))]) hx hb dX4_covered_17 rfl hl (by decide) rfl (fun ls hl => ?_)
    have hl : lv_has ls 5 [(3, .int (zI 0)), (2, .int (btI (fun i => anB (fun m => inPut (wPut (aWd a) y1 m) i) 0) 24)), (0, .ref mo), (1, .int (zI (y1 : Int)))] := by exact hl
    refine g_loop (fun mz H locs ls => ∃ (x : Nat) (T : mS), (x ≤ wM (aWd a) ∧ mz = wM (aWd a) - x ∧ mReal S T) ∧ mW X mo ad T s H locs ∧ lv_has ls 5 [(0, .ref mo), (1, .int (zI (y1 : Int))), (2, .int (btI (fun i => anB (fun m => inPut (wPut (aWd a) y1 m) i) x) 24)), (3, .int (zI (x : Int)))]) (wM (aWd a) - 0) ⟨0, S, ⟨by omega, rfl, mReal.rf⟩, hG, (lv_sub hl [2, 3, 1, 0] rfl)⟩ (fun mz ihA H locs ls hI => ?_)
    obtain ⟨x, T, ⟨hx9, hmz, hre⟩, hG, hl⟩ := hI
    refine lv_iload_n hx hb dX4_covered_18 rfl (lv_at hl 3 rfl) ?_
    refine lv_aload_n hx hb dX4_covered_19 rfl (lv_at hl 0 rfl) ?_
    refine m_get 5 (by decide) (v := .int (zI (wM (aWd a) : Int))) (congrArg (fun z => Value.int (zI z)) (show T.1 5 = (wM (aWd a) : Int) from (hX.real hre).o.m)) hx hb hts hown hG (hts _ q3301) dX4_covered_20 ?_
    refine g_cge (tgt := 69) hx hb dX4_covered_23 (by decide) (by omega) (fun h2 => ?_) (fun h2 => ?_)
    · refine lv_iload_n hx hb dX4_covered_69 rfl (lv_at hl 2 rfl) ?_
      exact m_iret hx hb hr hlocks hG (mX.castB (by unfold opCovered; rw [if_neg (by omega), show wM (aWd a) = x by omega]; rfl) (hX.real hre)) ⟨Nat.le_of_ble_eq_true rfl, Nat.le_of_ble_eq_true rfl⟩ dX4_covered_70
    · refine lv_aload_n hx hb dX4_covered_26 rfl (lv_at hl 0 rfl) ?_
      refine lv_iload_n hx hb dX4_covered_27 rfl (lv_at hl 3 rfl) ?_
      refine lv_iload_n hx hb dX4_covered_28 rfl (lv_at hl 1 rfl) ?_
      refine m_ci (va_runV (As := [.int (zI (x : Int)), .int (zI (y1 : Int))]) (rest := []) ⟨hx, hb, hml, hown, hts⟩ (metX4_isPut (x := x) (y := y1) (hX.real hre).o hA.w (by omega) (by omega)) (cwV 2 hts (lw_V q3660 q3662 qs75 q102 q3663) rfl rfl rfl (by decide +kernel) ⟨Nat.le_of_ble_eq_true rfl, Nat.le_of_ble_eq_true rfl⟩) (m_preV hG) rfl rfl hl.1 rfl (lv_room (Nat.le_of_ble_eq_true rfl)) dX4_covered_29 ⟨Nat.le_of_ble_eq_true rfl, Nat.le_of_ble_eq_true rfl⟩) hG (fun r_3 S_4 H locs hp hG => ?_)
      obtain ⟨b1, rfl, hb1, hre1, hpl1⟩ := hp
      have hG : mW X mo ad S_4 s H locs := hG
      have hre2 := hre.tr hre1
      rcases hb1 with ⟨rfl, pq, hpw, hp1, hp2, hp3, hp4⟩ | ⟨rfl, hpw⟩
      · refine g_eq (tgt := 63) hx hb dX4_covered_32 (by decide) (by decide) (fun h3 => ?_) (fun h3 => ?_)
        · exfalso; omega
        · refine lv_aload_n hx hb dX4_covered_35 rfl (lv_at hl 0 rfl) ?_
          refine m_get 31 (by decide) (v := .int (zI (pq.1 : Int))) (congrArg (fun z => Value.int (zI z)) (show S_4.1 31 = (pq.1 : Int) from hp1)) hx hb hts hown hG (hts _ q3327) dX4_covered_36 ?_
          refine lv_istore (lv' := [(4, .int (zI (pq.1 : Int))), (0, .ref mo), (1, .int (zI (y1 : Int))), (2, .int (btI (fun i => anB (fun m => inPut (wPut (aWd a) y1 m) i) x) 24)), (3, .int (zI (x : Int)))]) hx hb dX4_covered_39 hl (by decide) rfl (fun ls hl => ?_)
          have hl : lv_has ls 5 [(4, .int (zI (pq.1 : Int))), (0, .ref mo), (1, .int (zI (y1 : Int))), (2, .int (btI (fun i => anB (fun m => inPut (wPut (aWd a) y1 m) i) x || decide (pq.1 ≤ i ∧ i < pq.1)) 24)), (3, .int (zI (x : Int)))] := by rw [show btI (fun i => anB (fun m => inPut (wPut (aWd a) y1 m) i) x || decide (pq.1 ≤ i ∧ i < pq.1)) 24 = btI (fun i => anB (fun m => inPut (wPut (aWd a) y1 m) i) x) 24 from btI_cg (fun i hi => by show (_ || decide _) = _; rw [decide_eq_false (by omega), Bool.or_false])]; exact hl
          refine g_loop (fun mz H locs ls => ∃ (j : Nat), (pq.1 ≤ j ∧ j ≤ pq.2 + 1 ∧ mz = 24 - j) ∧ mW X mo ad S_4 s H locs ∧ lv_has ls 5 [(0, .ref mo), (1, .int (zI (y1 : Int))), (2, .int (btI (fun i => anB (fun m => inPut (wPut (aWd a) y1 m) i) x || decide (pq.1 ≤ i ∧ i < j)) 24)), (3, .int (zI (x : Int))), (4, .int (zI (j : Int)))]) (24 - pq.1) ⟨pq.1, ⟨by omega, by omega, rfl⟩, hG, (lv_sub hl [1, 2, 3, 4, 0] rfl)⟩ (fun mz ihB H locs ls hI => ?_)
          obtain ⟨j, ⟨hj, hj2, hmz2⟩, hG, hl⟩ := hI
          refine lv_iload hx hb dX4_covered_41 (lv_at hl 4 rfl) ?_
          refine lv_aload_n hx hb dX4_covered_43 rfl (lv_at hl 0 rfl) ?_
          refine m_get 32 (by decide) (v := .int (zI (pq.2 : Int))) (congrArg (fun z => Value.int (zI z)) (show S_4.1 32 = (pq.2 : Int) from hp2)) hx hb hts hown hG (hts _ q3328) dX4_covered_44 ?_
          refine g_cgt (tgt := 63) hx hb dX4_covered_47 (by decide) (by omega) (fun h4 => ?_) (fun h4 => ?_)
          · have hl : lv_has ls 5 [(0, .ref mo), (1, .int (zI (y1 : Int))), (2, .int (btI (fun i => anB (fun m => inPut (wPut (aWd a) y1 m) i) (x + 1)) 24)), (3, .int (zI (x : Int))), (4, .int (zI (j : Int)))] := by rw [show btI (fun i => anB (fun m => inPut (wPut (aWd a) y1 m) i) (x + 1)) 24 = btI (fun i => anB (fun m => inPut (wPut (aWd a) y1 m) i) x || decide (pq.1 ≤ i ∧ i < j)) 24 from btI_cg (fun i hi => by show (anB _ x || inPut (wPut (aWd a) y1 x) i) = (_ || decide _); rw [hpw]; show (_ || decide (pq.1 ≤ i ∧ i ≤ pq.2)) = _; rw [decide_eq_decide.mpr (show (pq.1 ≤ i ∧ i ≤ pq.2) ↔ (pq.1 ≤ i ∧ i < j) by omega)])]; exact hl
            refine lv_iinc (v := zI ((x : Int) + 1 : Int)) (lv' := [(3, .int (zI ((x : Int) + 1 : Int))), (0, .ref mo), (1, .int (zI (y1 : Int))), (2, .int (btI (fun i => anB (fun m => inPut (wPut (aWd a) y1 m) i) (x + 1)) 24)), (4, .int (zI (j : Int)))]) hx hb dX4_covered_63 hl (k := 3) rfl ((zI_add _ _).trans (congrArg zI (by omega))) (by decide) rfl (fun ls hl => ?_)
            refine lv_goto (tgt := 18) hx hb dX4_covered_66 (by decide) ?_
            exact ihA (wM (aWd a) - (x + 1)) (by omega) H locs ls ⟨(x + 1), S_4, ⟨by omega, rfl, hre2⟩, hG, (lv_sub hl [1, 2, 3, 0] rfl)⟩
          · refine lv_iload_n hx hb dX4_covered_50 rfl (lv_at hl 2 rfl) ?_
            refine lv_iconst (v := zI 1) hx hb dX4_covered_51 (by decide +kernel) ?_
            refine lv_iload hx hb dX4_covered_52 (lv_at hl 4 rfl) ?_
            refine lv_ishl hx hb dX4_covered_54 ?_
            refine lv_topx (bt1 (j : Int)) rfl ?_
            refine lv_ior hx hb dX4_covered_55 ?_
            refine lv_istore_n (lv' := [(2, .int ((btI (fun i => anB (fun m => inPut (wPut (aWd a) y1 m) i) x || decide (pq.1 ≤ i ∧ i < j)) 24) ||| (bt1 (j : Int)))), (0, .ref mo), (1, .int (zI (y1 : Int))), (3, .int (zI (x : Int))), (4, .int (zI (j : Int)))]) hx hb dX4_covered_56 rfl hl (by decide) rfl (fun ls hl => ?_)
            have hl : lv_has ls 5 [(2, .int (btI (fun i => anB (fun m => inPut (wPut (aWd a) y1 m) i) x || decide (pq.1 ≤ i ∧ i < (j + 1))) 24)), (0, .ref mo), (1, .int (zI (y1 : Int))), (3, .int (zI (x : Int))), (4, .int (zI (j : Int)))] := by rw [show btI (fun i => anB (fun m => inPut (wPut (aWd a) y1 m) i) x || decide (pq.1 ≤ i ∧ i < (j + 1))) 24 = btI (fun i => anB (fun m => inPut (wPut (aWd a) y1 m) i) x || decide (pq.1 ≤ i ∧ i < j)) 24 ||| bt1 j from (btI_cg (Q := fun i => (anB (fun m => inPut (wPut (aWd a) y1 m) i) x || decide (pq.1 ≤ i ∧ i < j)) || decide (i = j)) (fun i hi => by show (_ || decide _) = ((_ || decide _) || decide _); rw [Bool.or_assoc, ← Bool.decide_or, decide_eq_decide.mpr (show (pq.1 ≤ i ∧ i < j + 1) ↔ ((pq.1 ≤ i ∧ i < j) ∨ i = j) by omega)])).trans (btI_or (by omega)).symm]; exact hl
            refine lv_iinc (v := zI ((j : Int) + 1 : Int)) (lv' := [(4, .int (zI ((j : Int) + 1 : Int))), (2, .int (btI (fun i => anB (fun m => inPut (wPut (aWd a) y1 m) i) x || decide (pq.1 ≤ i ∧ i < (j + 1))) 24)), (0, .ref mo), (1, .int (zI (y1 : Int))), (3, .int (zI (x : Int)))]) hx hb dX4_covered_57 hl (k := 4) rfl ((zI_add _ _).trans (congrArg zI (by omega))) (by decide) rfl (fun ls hl => ?_)
            refine lv_goto (tgt := 41) hx hb dX4_covered_60 (by decide) ?_
            exact ihB (24 - (j + 1)) (by omega) H locs ls ⟨(j + 1), ⟨by omega, by omega, rfl⟩, hG, (lv_sub hl [2, 3, 1, 4, 0] rfl)⟩
      · refine g_eq (tgt := 63) hx hb dX4_covered_32 (by decide) (by decide) (fun h3 => ?_) (fun h3 => ?_)
        · have hl : lv_has ls 5 [(0, .ref mo), (1, .int (zI (y1 : Int))), (2, .int (btI (fun i => anB (fun m => inPut (wPut (aWd a) y1 m) i) (x + 1)) 24)), (3, .int (zI (x : Int)))] := by rw [show btI (fun i => anB (fun m => inPut (wPut (aWd a) y1 m) i) (x + 1)) 24 = btI (fun i => anB (fun m => inPut (wPut (aWd a) y1 m) i) x) 24 from btI_cg (fun i hi => by show (anB _ x || inPut (wPut (aWd a) y1 x) i) = _; rw [hpw]; exact Bool.or_false _)]; exact hl
          refine lv_iinc (v := zI ((x : Int) + 1 : Int)) (lv' := [(3, .int (zI ((x : Int) + 1 : Int))), (0, .ref mo), (1, .int (zI (y1 : Int))), (2, .int (btI (fun i => anB (fun m => inPut (wPut (aWd a) y1 m) i) (x + 1)) 24))]) hx hb dX4_covered_63 hl (k := 3) rfl ((zI_add _ _).trans (congrArg zI (by omega))) (by decide) rfl (fun ls hl => ?_)
          refine lv_goto (tgt := 18) hx hb dX4_covered_66 (by decide) ?_
          exact ihA (wM (aWd a) - (x + 1)) (by omega) H locs ls ⟨(x + 1), S_4, ⟨by omega, rfl, hre2⟩, hG, (lv_sub hl [1, 2, 3, 0] rfl)⟩
        · exfalso; omega
  · refine lv_aload_n hx hb dX4_covered_8 rfl (lv_at hl 0 rfl) ?_
    refine lv_iconst (v := zI (-1)) hx hb dX4_covered_9 (by decide +kernel) ?_
    refine g_topz (y := -((1 : Nat) : Int)) (by decide) ?_
    refine m_ci (va_runV (As := [.int (zI (-((1 : Nat) : Int)))]) (rest := []) ⟨hx, hb, hml, hown, hts⟩ (metX4_no 1 (by decide)) (cwV 1 hts (lw_V q3427 q3429 qs43 q102 q3430) rfl rfl rfl (by decide +kernel) ⟨Nat.le_of_ble_eq_true rfl, Nat.le_of_ble_eq_true rfl⟩) (m_preV hG) rfl rfl hl.1 rfl (lv_room (Nat.le_of_ble_eq_true rfl)) dX4_covered_10 ⟨Nat.le_of_ble_eq_true rfl, Nat.le_of_ble_eq_true rfl⟩) hG (fun r_5 S_6 H locs hp hG => ?_)
    obtain ⟨rfl, rfl⟩ := hp
    have hG : mW X mo ad (mNo S 1) s H locs := hG
    exact m_iret hx hb hr hlocks hG (by first | (exfalso; omega) | exact (hX.noB 1 (by unfold opCovered; all_goals ((repeat (first | rw [if_pos (by omega)] | rw [if_neg (by omega)])) <;> rfl)))) ⟨Nat.le_of_ble_eq_true rfl, Nat.le_of_ble_eq_true rfl⟩ dX4_covered_13

