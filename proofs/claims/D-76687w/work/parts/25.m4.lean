set_option maxRecDepth 100000
def aBar (a : aS) (s : Int) : Nat := if ¬ (0 ≤ s ∧ s ≤ 7) then 1 else match aSv a s.toNat with
  | none => 3
  | some (.inl _) => 2
  | some (.inr _) => 0
def opRow (a : aS) (s sort n : Int) : Int × aS := if ¬ (0 ≤ s ∧ s ≤ 7) then aNoR a 1 else if n < 0 then aNoR a 4 else if ¬ (0 ≤ sort ∧ sort ≤ 3) then aNoR a 6 else if 160 < n then aNoR a 7 else (1, aSet a s.toNat (some (.inr (sort.toNat, n.toNat, fun _ => 0))))
/-- a long as an element of a sort -/
def aTrunc (so : Nat) (v : Int64) : Int64 := if so = 0 then v.toInt32.toInt8.toInt32.toInt64 else if so = 1 then v.toInt32.toInt16.toInt32.toInt64 else if so = 2 then v.toInt32.toInt64 else v
def opSet (a : aS) (s i : Int) (v : Int64) : Int × aS := if ¬ (0 ≤ s ∧ s ≤ 7) then aNoR a 1 else match aSv a s.toNat with
  | none => aNoR a 3
  | some (.inl _) => aNoR a 2
  | some (.inr (so, n, f)) => if ¬ (0 ≤ i ∧ i < n) then aNoR a 5 else (1, aSet a s.toNat (some (.inr (so, n, va_up f i.toNat (aTrunc so v)))))
def opElem (a : aS) (s i : Int) : Int64 := if ¬ (0 ≤ s ∧ s ≤ 7) then 0 else match aSv a s.toNat with
  | some (.inr (_, n, f)) => if 0 ≤ i ∧ i < n then f i.toNat else 0
  | _ => 0
def opShow (a : aS) (s m : Int) : Int × aS := if ¬ (0 ≤ s ∧ s ≤ 7) then aNoR a 1 else if m = -1 then (0, aSet a s.toNat none) else if ¬ (0 ≤ m ∧ m < wM (aWd a)) then aNoR a 1 else (1, aSet a s.toNat (some (.inl m.toNat)))
def opHolds (a : aS) (s : Int) : Int := if ¬ (0 ≤ s ∧ s ≤ 7) then -1 else match aSv a s.toNat with
  | none => -1
  | some (.inl m) => m
  | some (.inr (so, _, _)) => 100 + (so : Nat)
def aAbove (k : Int) : Int := if k = 3 then 1 else if k = 5 then 2 else if k = 6 then 3 else 0
/-- whether kind d is one of kind k -/
def aUnd (d k : Int) : Bool := decide (k = d ∨ k = 0 ∨ (d = 3 ∧ k = 1) ∨ (d = 5 ∧ k = 2) ∨ (d = 6 ∧ (k = 3 ∨ k = 1)))
def aSays (r : Rm) (kind : Int) : Int := if kind = 0 then (rP r : Nat) else if kind = 1 ∨ kind = 3 then (rBy r : Nat) else if kind = 4 then (rQ r : Nat) else if kind = 6 then (rOn r : Nat) else (rQ r : Nat) - (rP r : Nat) + 1
def opSays (a : aS) (s kind : Int) : Int × aS := if ¬ (0 ≤ s ∧ s ≤ 7) then aNoR a 1 else if ¬ (0 ≤ kind ∧ kind ≤ 6) then aNoR a 1 else match aSv a s.toNat with
  | none => aNoR a 3
  | some (.inr _) => aNoR a 2
  | some (.inl m) => if aUnd (rKind (wRk (aWd a) m) : Nat) kind = true then (aSays (wRk (aWd a) m) kind, a) else aNoR a 2
theorem mX.set {S T : mS} {a : aS} (h : mX S a) (k : aOK a) {s : Nat} {x : aSh} (hs : s < 8) (hx : mSh T s x) (hi : T.1 = S.1) (ha : ∀ k, k ≠ 9 → k ≠ 10 → T.2.1 k = S.2.1 k) (hl : ∀ k, k ≠ 11 → T.2.2 k = S.2.2 k) (h9 : ∀ r, r ≠ s → T.2.1 9 r = S.2.1 9 r ∧ T.2.1 10 r = S.2.1 10 r) (h11 : ∀ r i, r ≠ s → i < 160 → T.2.2 11 (160 * r + i) = S.2.2 11 (160 * r + i)) : mX T (aSet a s x) :=
  ⟨(mX.o h).cg ⟨⟨by rw [hi], by rw [hi], by rw [hi]⟩, ⟨ha 1 (by decide) (by decide), ha 2 (by decide) (by decide), ha 4 (by decide) (by decide), ha 6 (by decide) (by decide), ha 7 (by decide) (by decide)⟩, hl 3 (by decide)⟩,
   h.2.1.cg ⟨⟨by rw [hi], by rw [hi], by rw [hi], by rw [hi]⟩, ⟨ha 18 (by decide) (by decide), ha 19 (by decide) (by decide), ha 22 (by decide) (by decide), ha 23 (by decide) (by decide)⟩, hl 20 (by decide)⟩,
   fun r hr => by
     show mSh T r (va_up (aSv a) s x r)
     by_cases hrs : r = s
     · subst hrs; rw [va_up_self]; exact hx
     · rw [va_up_ne _ _ hrs]
       exact (h.2.2.1 r hr).cg ⟨(h9 r hrs).1, (h9 r hrs).2, fun i hi => h11 r i hrs hi⟩ (fun so n f e => by have := k.2.1 r; rw [e] at this; exact this.2),
   fun j hj => (congrFun (ha 15 (by decide) (by decide)) j).trans (h.2.2.2.1 j hj), (congrFun hi 12).trans h.2.2.2.2.1, h.2.2.2.2.2.cg ⟨congrFun hi 13, ha 14 (by decide) (by decide)⟩⟩
set_option maxHeartbeats 4000000 in
theorem metX4_row {l : Launch} {X : gX} {mo : Nat} {ad : Nat → Nat} {S : mS} {a : aS} (hX : mX S a) (hA : aOK a) {v sort n : Int} (hr0 : -2147483648 ≤ v ∧ v < 2147483648 ∧ -2147483648 ≤ sort ∧ sort < 2147483648 ∧ -2147483648 ≤ n ∧ n < 2147483648) : Met l yX4_row (ws_ yX4_row cX4_row 5 (some FieldType.int)) ({ frames := 1, cells := 0, slots := 0, locals := 22 }) (mP X mo ad S [.ref mo, .int (zI v), .int (zI sort), .int (zI n)]) (mQi X mo ad (fun u T => u = zI (opRow a v sort n).1 ∧ mX T (opRow a v sort n).2)) 0 0 (mA mo ad) := by
  refine Met.m (by decide) (Nat.le_of_ble_eq_true rfl) ?_
  intro p e s m below meth c ls hx hb hr hts hown hlocks hml hG hl
  have hl : lv_has ls 5 [(0, .ref mo), (1, .int (zI v)), (2, .int (zI sort)), (3, .int (zI n))] := hl
  refine lv_iload_n hx hb dX4_row_0 rfl (lv_at hl 1 rfl) ?_
  refine lv_iconst (v := zI 0) hx hb dX4_row_1 (by decide +kernel) ?_
  refine lv_bipush (v := zI 7) hx hb dX4_row_2 (by decide +kernel) ?_
  refine m_ci (va_runS (As := [.int (zI v), .int (zI 0), .int (zI 7)]) (rest := []) ⟨hx, hb, hml, hown, hts⟩ (metX4_within (by omega)) (va_cwS 3 hts (lw_S q3424 q3425 q102 q3426) rfl rfl rfl (by decide +kernel) ⟨Nat.le_of_ble_eq_true rfl, Nat.le_of_ble_eq_true rfl⟩) (m_preS hG) rfl rfl hl.1 rfl (lv_room (Nat.le_of_ble_eq_true rfl)) dX4_row_4 ⟨Nat.le_of_ble_eq_true rfl, Nat.le_of_ble_eq_true rfl⟩) hG (fun r_1 S_2 H locs hp hG => ?_)
  obtain ⟨bw1, rfl, hbw1, rfl⟩ := hp
  have hG : mW X mo ad S s H locs := hG
  refine g_ne (tgt := 16) hx hb dX4_row_7 (by decide) (by omega) (fun h2 => ?_) (fun h2 => ?_)
  · refine lv_iload_n hx hb dX4_row_16 rfl (lv_at hl 3 rfl) ?_
    refine g_ge (tgt := 27) hx hb dX4_row_17 (by decide) (by omega) (fun h3 => ?_) (fun h3 => ?_)
    · refine lv_iload_n hx hb dX4_row_27 rfl (lv_at hl 2 rfl) ?_
      refine lv_iconst (v := zI 0) hx hb dX4_row_28 (by decide +kernel) ?_
      refine lv_iconst (v := zI 3) hx hb dX4_row_29 (by decide +kernel) ?_
      refine m_ci (va_runS (As := [.int (zI sort), .int (zI 0), .int (zI 3)]) (rest := []) ⟨hx, hb, hml, hown, hts⟩ (metX4_within (by omega)) (va_cwS 3 hts (lw_S q3424 q3425 q102 q3426) rfl rfl rfl (by decide +kernel) ⟨Nat.le_of_ble_eq_true rfl, Nat.le_of_ble_eq_true rfl⟩) (m_preS hG) rfl rfl hl.1 rfl (lv_room (Nat.le_of_ble_eq_true rfl)) dX4_row_30 ⟨Nat.le_of_ble_eq_true rfl, Nat.le_of_ble_eq_true rfl⟩) hG (fun r_3 S_4 H locs hp hG => ?_)
      obtain ⟨bw4, rfl, hbw4, rfl⟩ := hp
      have hG : mW X mo ad S s H locs := hG
      refine g_ne (tgt := 43) hx hb dX4_row_33 (by decide) (by omega) (fun h5 => ?_) (fun h5 => ?_)
      · refine lv_iload_n hx hb dX4_row_43 rfl (lv_at hl 3 rfl) ?_
        refine lv_sipush (v := zI 160) hx hb dX4_row_44 (by decide +kernel) ?_
        refine g_cle (tgt := 57) hx hb dX4_row_47 (by decide) (by omega) (fun h6 => ?_) (fun h6 => ?_)
        · obtain ⟨v1, rfl⟩ : ∃ n9 : Nat, v = n9 := ⟨v.toNat, by omega⟩
          obtain ⟨sort1, rfl⟩ : ∃ n9 : Nat, sort = n9 := ⟨sort.toNat, by omega⟩
          obtain ⟨n1, rfl⟩ : ∃ n9 : Nat, n = n9 := ⟨n.toNat, by omega⟩
          refine lv_aload_n hx hb dX4_row_57 rfl (lv_at hl 0 rfl) ?_
          refine m_get 9 (by decide) (v := .ref (ad 9)) rfl hx hb hts hown hG (hts _ q3305) dX4_row_58 ?_
          refine lv_iload_n hx hb dX4_row_61 rfl (lv_at hl 1 rfl) ?_
          refine lv_bipush (v := zI 100) hx hb dX4_row_62 (by decide +kernel) ?_
          refine lv_iload_n hx hb dX4_row_64 rfl (lv_at hl 2 rfl) ?_
          refine g_iadd hx hb dX4_row_65 ?_
          refine m_iast 9 rfl rfl (by decide) v1 ⟨by omega, by show _ < 8; omega⟩ hx hb hG dX4_row_66 (fun H locs (hG : mW X mo ad (sA S 9 v1 (100 + (sort1 : Int))) s H locs) => ?_)
          refine lv_aload_n hx hb dX4_row_67 rfl (lv_at hl 0 rfl) ?_
          refine m_get 10 (by decide) (v := .ref (ad 10)) rfl hx hb hts hown hG (hts _ q3306) dX4_row_68 ?_
          refine lv_iload_n hx hb dX4_row_71 rfl (lv_at hl 1 rfl) ?_
          refine lv_iload_n hx hb dX4_row_72 rfl (lv_at hl 3 rfl) ?_
          refine m_iast 10 rfl rfl (by decide) v1 ⟨by omega, by show _ < 8; omega⟩ hx hb hG dX4_row_73 (fun H locs (hG : mW X mo ad (sA (sA S 9 v1 (100 + (sort1 : Int))) 10 v1 (n1 : Int)) s H locs) => ?_)
          refine lv_iconst (v := zI 0) hx hb dX4_row_74 (by decide +kernel) ?_
          refine lv_istore (lv' := [(4, .int (zI 0)), (0, .ref mo), (1, .int (zI (v1 : Int))), (2, .int (zI (sort1 : Int))), (3, .int (zI (n1 : Int)))]) hx hb dX4_row_75 hl (by decide) rfl (fun ls hl => ?_)
          refine g_loop (fun mz H locs ls => ∃ (k : Nat) (T : mS), (k ≤ 160 ∧ mz = 160 - k ∧ (T.2.1 9 v1 = 100 + (sort1 : Nat) ∧ T.2.1 10 v1 = (n1 : Nat) ∧ ∀ r, r ≠ v1 → T.2.1 9 r = S.2.1 9 r ∧ T.2.1 10 r = S.2.1 10 r) ∧ (T.1 = S.1 ∧ (∀ k, k ≠ 9 → k ≠ 10 → T.2.1 k = S.2.1 k) ∧ (∀ k, k ≠ 11 → T.2.2 k = S.2.2 k) ∧ ∀ r i, r ≠ v1 → i < 160 → T.2.2 11 (160 * r + i) = S.2.2 11 (160 * r + i)) ∧ ∀ i, i < k → T.2.2 11 (160 * v1 + i) = 0) ∧ mW X mo ad T s H locs ∧ lv_has ls 5 [(0, .ref mo), (1, .int (zI (v1 : Int))), (2, .int (zI (sort1 : Int))), (3, .int (zI (n1 : Int))), (4, .int (zI (k : Int)))]) (160 - 0) ⟨0, (sA (sA S 9 v1 (100 + (sort1 : Int))) 10 v1 (n1 : Int)), ⟨by omega, rfl, ⟨by rw [sA_o (by decide : (9 : Nat) ≠ 10), sA_s], by rw [sA_s], fun r hr => ⟨by rw [sA_o (by decide : (9 : Nat) ≠ 10), sA_n hr], by rw [sA_n hr, sA_o (by decide : (10 : Nat) ≠ 9)]⟩⟩, ⟨rfl, fun q h1 h2 => by rw [sA_o h2, sA_o h1], fun _ _ => rfl, fun _ _ _ _ => rfl⟩, fun i hi => by omega⟩, hG, (lv_sub hl [1, 2, 3, 4, 0] rfl)⟩ (fun mz ihA H locs ls hI => ?_)
          obtain ⟨k, T, ⟨hk, hmz, h9, hU, h11⟩, hG, hl⟩ := hI
          refine lv_iload hx hb dX4_row_77 (lv_at hl 4 rfl) ?_
          refine lv_sipush (v := zI 160) hx hb dX4_row_79 (by decide +kernel) ?_
          refine g_cge (tgt := 105) hx hb dX4_row_82 (by decide) (by omega) (fun hlp => ?_) (fun hlp => ?_)
          · refine lv_iconst (v := zI 1) hx hb dX4_row_105 (by decide +kernel) ?_
            exact m_iret hx hb hr hlocks hG (by rw [show opRow a v1 sort1 n1 = (1, aSet a v1 (some (.inr (sort1, n1, fun _ => 0)))) from (by unfold opRow; all_goals ((repeat (first | rw [if_pos (by omega)] | rw [if_neg (by omega)])) <;> rfl))]; exact ⟨rfl, hX.set hA (by omega) ⟨h9.1, h9.2.1, fun i hi => h11 i (by omega)⟩ hU.1 hU.2.1 hU.2.2.1 h9.2.2 hU.2.2.2⟩) ⟨Nat.le_of_ble_eq_true rfl, Nat.le_of_ble_eq_true rfl⟩ dX4_row_106
          · refine lv_aload_n hx hb dX4_row_85 rfl (lv_at hl 0 rfl) ?_
            refine m_get 11 (by decide) (v := .ref (ad 11)) rfl hx hb hts hown hG (hts _ q3307) dX4_row_86 ?_
            refine lv_sipush (v := zI 160) hx hb dX4_row_89 (by decide +kernel) ?_
            refine lv_iload_n hx hb dX4_row_92 rfl (lv_at hl 1 rfl) ?_
            refine g_imul hx hb dX4_row_93 ?_
            refine lv_iload hx hb dX4_row_94 (lv_at hl 4 rfl) ?_
            refine g_iadd hx hb dX4_row_96 ?_
            refine lv_lconst (v := zL 0) hx hb dX4_row_97 (by decide +kernel) ?_
            refine m_last 11 rfl rfl (160 * v1 + k) ⟨by omega, by show _ < 1280; omega⟩ hx hb hG dX4_row_98 (fun H locs (hG : mW X mo ad (sL T 11 (160 * v1 + k) (zL 0)) s H locs) => ?_)
            refine lv_iinc (v := zI ((k : Int) + 1 : Int)) (lv' := [(4, .int (zI ((k : Int) + 1 : Int))), (0, .ref mo), (1, .int (zI (v1 : Int))), (2, .int (zI (sort1 : Int))), (3, .int (zI (n1 : Int)))]) hx hb dX4_row_99 hl (k := 4) rfl ((zI_add _ _).trans (congrArg zI (by omega))) (by decide) rfl (fun ls hl => ?_)
            refine lv_goto (tgt := 77) hx hb dX4_row_102 (by decide) ?_
            exact ihA (160 - (k + 1)) (by omega) H locs ls ⟨(k + 1), (sL T 11 (160 * v1 + k) (zL 0)), ⟨by omega, rfl, h9, ⟨hU.1, hU.2.1, fun q hq => (sL_o hq).trans (hU.2.2.1 q hq), fun r i h1 h2 => (sL_n (by omega)).trans (hU.2.2.2 r i h1 h2)⟩, fun i hi => by by_cases hik : i = k; (subst hik; exact sL_s); exact (sL_n (by omega)).trans (h11 i (by omega))⟩, hG, (lv_sub hl [1, 2, 3, 4, 0] rfl)⟩
        · refine lv_aload_n hx hb dX4_row_50 rfl (lv_at hl 0 rfl) ?_
          refine lv_bipush (v := zI (-7)) hx hb dX4_row_51 (by decide +kernel) ?_
          refine g_topz (y := -((7 : Nat) : Int)) (by decide) ?_
          refine m_ci (va_runV (As := [.int (zI (-((7 : Nat) : Int)))]) (rest := []) ⟨hx, hb, hml, hown, hts⟩ (metX4_no 7 (by decide)) (cwV 1 hts (lw_V q3427 q3429 qs43 q102 q3430) rfl rfl rfl (by decide +kernel) ⟨Nat.le_of_ble_eq_true rfl, Nat.le_of_ble_eq_true rfl⟩) (m_preV hG) rfl rfl hl.1 rfl (lv_room (Nat.le_of_ble_eq_true rfl)) dX4_row_53 ⟨Nat.le_of_ble_eq_true rfl, Nat.le_of_ble_eq_true rfl⟩) hG (fun r_5 S_6 H locs hp hG => ?_)
          obtain ⟨rfl, rfl⟩ := hp
          have hG : mW X mo ad (mNo S 7) s H locs := hG
          exact m_iret hx hb hr hlocks hG (by first | (exfalso; omega) | exact hX.noR 7 (by unfold opRow; all_goals ((repeat (first | rw [if_pos (by omega)] | rw [if_neg (by omega)])) <;> rfl))) ⟨Nat.le_of_ble_eq_true rfl, Nat.le_of_ble_eq_true rfl⟩ dX4_row_56
      · refine lv_aload_n hx hb dX4_row_36 rfl (lv_at hl 0 rfl) ?_
        refine lv_bipush (v := zI (-6)) hx hb dX4_row_37 (by decide +kernel) ?_
        refine g_topz (y := -((6 : Nat) : Int)) (by decide) ?_
        refine m_ci (va_runV (As := [.int (zI (-((6 : Nat) : Int)))]) (rest := []) ⟨hx, hb, hml, hown, hts⟩ (metX4_no 6 (by decide)) (cwV 1 hts (lw_V q3427 q3429 qs43 q102 q3430) rfl rfl rfl (by decide +kernel) ⟨Nat.le_of_ble_eq_true rfl, Nat.le_of_ble_eq_true rfl⟩) (m_preV hG) rfl rfl hl.1 rfl (lv_room (Nat.le_of_ble_eq_true rfl)) dX4_row_39 ⟨Nat.le_of_ble_eq_true rfl, Nat.le_of_ble_eq_true rfl⟩) hG (fun r_7 S_8 H locs hp hG => ?_)
        obtain ⟨rfl, rfl⟩ := hp
        have hG : mW X mo ad (mNo S 6) s H locs := hG
        exact m_iret hx hb hr hlocks hG (by first | (exfalso; omega) | exact hX.noR 6 (by unfold opRow; all_goals ((repeat (first | rw [if_pos (by omega)] | rw [if_neg (by omega)])) <;> rfl))) ⟨Nat.le_of_ble_eq_true rfl, Nat.le_of_ble_eq_true rfl⟩ dX4_row_42
    · refine lv_aload_n hx hb dX4_row_20 rfl (lv_at hl 0 rfl) ?_
      refine lv_bipush (v := zI (-4)) hx hb dX4_row_21 (by decide +kernel) ?_
      refine g_topz (y := -((4 : Nat) : Int)) (by decide) ?_
      refine m_ci (va_runV (As := [.int (zI (-((4 : Nat) : Int)))]) (rest := []) ⟨hx, hb, hml, hown, hts⟩ (metX4_no 4 (by decide)) (cwV 1 hts (lw_V q3427 q3429 qs43 q102 q3430) rfl rfl rfl (by decide +kernel) ⟨Nat.le_of_ble_eq_true rfl, Nat.le_of_ble_eq_true rfl⟩) (m_preV hG) rfl rfl hl.1 rfl (lv_room (Nat.le_of_ble_eq_true rfl)) dX4_row_23 ⟨Nat.le_of_ble_eq_true rfl, Nat.le_of_ble_eq_true rfl⟩) hG (fun r_9 S_10 H locs hp hG => ?_)
      obtain ⟨rfl, rfl⟩ := hp
      have hG : mW X mo ad (mNo S 4) s H locs := hG
      exact m_iret hx hb hr hlocks hG (by first | (exfalso; omega) | exact hX.noR 4 (by unfold opRow; all_goals ((repeat (first | rw [if_pos (by omega)] | rw [if_neg (by omega)])) <;> rfl))) ⟨Nat.le_of_ble_eq_true rfl, Nat.le_of_ble_eq_true rfl⟩ dX4_row_26
  · refine lv_aload_n hx hb dX4_row_10 rfl (lv_at hl 0 rfl) ?_
    refine lv_iconst (v := zI (-1)) hx hb dX4_row_11 (by decide +kernel) ?_
    refine g_topz (y := -((1 : Nat) : Int)) (by decide) ?_
    refine m_ci (va_runV (As := [.int (zI (-((1 : Nat) : Int)))]) (rest := []) ⟨hx, hb, hml, hown, hts⟩ (metX4_no 1 (by decide)) (cwV 1 hts (lw_V q3427 q3429 qs43 q102 q3430) rfl rfl rfl (by decide +kernel) ⟨Nat.le_of_ble_eq_true rfl, Nat.le_of_ble_eq_true rfl⟩) (m_preV hG) rfl rfl hl.1 rfl (lv_room (Nat.le_of_ble_eq_true rfl)) dX4_row_12 ⟨Nat.le_of_ble_eq_true rfl, Nat.le_of_ble_eq_true rfl⟩) hG (fun r_11 S_12 H locs hp hG => ?_)
    obtain ⟨rfl, rfl⟩ := hp
    have hG : mW X mo ad (mNo S 1) s H locs := hG
    exact m_iret hx hb hr hlocks hG (by first | (exfalso; omega) | exact hX.noR 1 (by unfold opRow; all_goals ((repeat (first | rw [if_pos (by omega)] | rw [if_neg (by omega)])) <;> rfl))) ⟨Nat.le_of_ble_eq_true rfl, Nat.le_of_ble_eq_true rfl⟩ dX4_row_15

set_option maxHeartbeats 4000000 in
theorem metX4_noRow {l : Launch} {X : gX} {mo : Nat} {ad : Nat → Nat} {S : mS} {a : aS} (hX : mX S a) (hA : aOK a) {v : Int} (hr0 : -2147483648 ≤ v ∧ v < 2147483648) (j : Nat) (hj : aBar a v = j) : Met l yX4_noRow (ws_ yX4_noRow cX4_noRow 2 (some FieldType.int)) ({ frames := 1, cells := 0, slots := 0, locals := 22 }) (mP X mo ad S [.ref mo, .int (zI v)]) (mQi X mo ad (fun u T => u = zI (-(j : Int)) ∧ S = T)) 0 0 (mA mo ad) := by
  refine Met.m (by decide) (Nat.le_of_ble_eq_true rfl) ?_
  intro p e s m below meth c ls hx hb hr hts hown hlocks hml hG hl
  have hl : lv_has ls 2 [(0, .ref mo), (1, .int (zI v))] := hl
  refine lv_iload_n hx hb dX4_noRow_0 rfl (lv_at hl 1 rfl) ?_
  refine lv_iconst (v := zI 0) hx hb dX4_noRow_1 (by decide +kernel) ?_
  refine lv_bipush (v := zI 7) hx hb dX4_noRow_2 (by decide +kernel) ?_
  refine m_ci (va_runS (As := [.int (zI v), .int (zI 0), .int (zI 7)]) (rest := []) ⟨hx, hb, hml, hown, hts⟩ (metX4_within (by omega)) (va_cwS 3 hts (lw_S q3424 q3425 q102 q3426) rfl rfl rfl (by decide +kernel) ⟨Nat.le_of_ble_eq_true rfl, Nat.le_of_ble_eq_true rfl⟩) (m_preS hG) rfl rfl hl.1 rfl (lv_room (Nat.le_of_ble_eq_true rfl)) dX4_noRow_4 ⟨Nat.le_of_ble_eq_true rfl, Nat.le_of_ble_eq_true rfl⟩) hG (fun r_1 S_2 H locs hp hG => ?_)
  obtain ⟨bw1, rfl, hbw1, rfl⟩ := hp
  have hG : mW X mo ad S s H locs := hG
  refine g_ne (tgt := 12) hx hb dX4_noRow_7 (by decide) (by omega) (fun h2 => ?_) (fun h2 => ?_)
  · obtain ⟨v1, rfl⟩ : ∃ n9 : Nat, v = n9 := ⟨v.toNat, by omega⟩
    have hshv := hX.2.2.1 v1 (by omega)
    have hokv := hA.2.1 v1
    rcases hsvv : aSv a v1 with _ | mv | ⟨sov, nv, fv⟩
    · rw [hsvv] at hshv
      have hshv : S.2.1 9 v1 = -1 := hshv
      refine lv_aload_n hx hb dX4_noRow_12 rfl (lv_at hl 0 rfl) ?_
      refine m_get 9 (by decide) (v := .ref (ad 9)) rfl hx hb hts hown hG (hts _ q3305) dX4_noRow_13 ?_
      refine lv_iload_n hx hb dX4_noRow_16 rfl (lv_at hl 1 rfl) ?_
      refine m_iald 9 rfl rfl (by decide) v1 (v := -1) ⟨by omega, by show _ < 8; omega⟩ hshv hx hb hG dX4_noRow_17 ?_
      refine g_lt (tgt := 32) hx hb dX4_noRow_18 (by decide) (by decide) (fun h3 => ?_) (fun h3 => ?_)
      · refine lv_aload_n hx hb dX4_noRow_32 rfl (lv_at hl 0 rfl) ?_
        refine m_get 9 (by decide) (v := .ref (ad 9)) rfl hx hb hts hown hG (hts _ q3305) dX4_noRow_33 ?_
        refine lv_iload_n hx hb dX4_noRow_36 rfl (lv_at hl 1 rfl) ?_
        refine m_iald 9 rfl rfl (by decide) v1 (v := -1) ⟨by omega, by show _ < 8; omega⟩ hshv hx hb hG dX4_noRow_37 ?_
        refine g_ge (tgt := 46) hx hb dX4_noRow_38 (by decide) (by decide) (fun h4 => ?_) (fun h4 => ?_)
        · exfalso; omega
        · refine lv_bipush (v := zI (-3)) hx hb dX4_noRow_41 (by decide +kernel) ?_
          refine lv_goto (tgt := 47) hx hb dX4_noRow_43 (by decide) ?_
          exact m_iret hx hb hr hlocks hG (by first | (exfalso; omega) | exact (by rw [show j = 3 from hj.symm.trans (by unfold aBar; rw [if_neg (by omega)]; simp only [Int.toNat_natCast, hsvv])]; exact ⟨rfl, rfl⟩)) ⟨Nat.le_of_ble_eq_true rfl, Nat.le_of_ble_eq_true rfl⟩ dX4_noRow_47
      · exfalso; omega
    · rw [hsvv] at hshv hokv
      have hshv : S.2.1 9 v1 = (mv : Nat) := hshv
      have hokv : mv < wM (aWd a) := hokv
      have hMv := hA.w.m
      refine lv_aload_n hx hb dX4_noRow_12 rfl (lv_at hl 0 rfl) ?_
      refine m_get 9 (by decide) (v := .ref (ad 9)) rfl hx hb hts hown hG (hts _ q3305) dX4_noRow_13 ?_
      refine lv_iload_n hx hb dX4_noRow_16 rfl (lv_at hl 1 rfl) ?_
      refine m_iald 9 rfl rfl (by decide) v1 (v := (mv : Int)) ⟨by omega, by show _ < 8; omega⟩ hshv hx hb hG dX4_noRow_17 ?_
      refine g_lt (tgt := 32) hx hb dX4_noRow_18 (by decide) (by omega) (fun h5 => ?_) (fun h5 => ?_)
      · exfalso; omega
      · refine lv_aload_n hx hb dX4_noRow_21 rfl (lv_at hl 0 rfl) ?_
        refine lv_iload_n hx hb dX4_noRow_22 rfl (lv_at hl 1 rfl) ?_
        have hq6 := hX.hold hA v1 (by omega)
        refine m_ci (va_runV (As := [.int (zI (v1 : Int))]) (rest := []) ⟨hx, hb, hml, hown, hts⟩ (metX4_isRow (k := v1) (by omega)) (cwV 1 hts (lw_V q3439 q3441 qs45 q102 q3442) rfl rfl rfl (by decide +kernel) ⟨Nat.le_of_ble_eq_true rfl, Nat.le_of_ble_eq_true rfl⟩) (m_preV hG) rfl rfl hl.1 rfl (lv_room (Nat.le_of_ble_eq_true rfl)) dX4_noRow_23 ⟨Nat.le_of_ble_eq_true rfl, Nat.le_of_ble_eq_true rfl⟩) hG (fun r_3 S_4 H locs hp hG => ?_)
        obtain ⟨b6, rfl, hb6, rfl⟩ := hp
        have hG : mW X mo ad S s H locs := hG
        refine g_ne (tgt := 32) hx hb dX4_noRow_26 (by decide) (by omega) (fun h7 => ?_) (fun h7 => ?_)
        · refine lv_aload_n hx hb dX4_noRow_32 rfl (lv_at hl 0 rfl) ?_
          refine m_get 9 (by decide) (v := .ref (ad 9)) rfl hx hb hts hown hG (hts _ q3305) dX4_noRow_33 ?_
          refine lv_iload_n hx hb dX4_noRow_36 rfl (lv_at hl 1 rfl) ?_
          refine m_iald 9 rfl rfl (by decide) v1 (v := (mv : Int)) ⟨by omega, by show _ < 8; omega⟩ hshv hx hb hG dX4_noRow_37 ?_
          refine g_ge (tgt := 46) hx hb dX4_noRow_38 (by decide) (by omega) (fun h8 => ?_) (fun h8 => ?_)
          · refine lv_iconst (v := zI 0) hx hb dX4_noRow_46 (by decide +kernel) ?_
            exact m_iret hx hb hr hlocks hG (by first | (exfalso; omega) | exact (by rw [show j = 2 from hj.symm.trans (by unfold aBar; rw [if_neg (by omega)]; simp only [Int.toNat_natCast, hsvv])]; exact ⟨rfl, rfl⟩)) ⟨Nat.le_of_ble_eq_true rfl, Nat.le_of_ble_eq_true rfl⟩ dX4_noRow_47
          · exfalso; omega
        · refine lv_bipush (v := zI (-2)) hx hb dX4_noRow_29 (by decide +kernel) ?_
          exact m_iret hx hb hr hlocks hG (by first | (exfalso; omega) | exact (by rw [show j = 2 from hj.symm.trans (by unfold aBar; rw [if_neg (by omega)]; simp only [Int.toNat_natCast, hsvv])]; exact ⟨rfl, rfl⟩)) ⟨Nat.le_of_ble_eq_true rfl, Nat.le_of_ble_eq_true rfl⟩ dX4_noRow_31
    · rw [hsvv] at hshv hokv
      obtain ⟨hshv, hlnv, helv⟩ := hshv
      have hokv : sov ≤ 3 ∧ nv ≤ 160 := hokv
      refine lv_aload_n hx hb dX4_noRow_12 rfl (lv_at hl 0 rfl) ?_
      refine m_get 9 (by decide) (v := .ref (ad 9)) rfl hx hb hts hown hG (hts _ q3305) dX4_noRow_13 ?_
      refine lv_iload_n hx hb dX4_noRow_16 rfl (lv_at hl 1 rfl) ?_
      refine m_iald 9 rfl rfl (by decide) v1 (v := (100 + (sov : Int))) ⟨by omega, by show _ < 8; omega⟩ hshv hx hb hG dX4_noRow_17 ?_
      refine g_lt (tgt := 32) hx hb dX4_noRow_18 (by decide) (by omega) (fun h9 => ?_) (fun h9 => ?_)
      · exfalso; omega
      · refine lv_aload_n hx hb dX4_noRow_21 rfl (lv_at hl 0 rfl) ?_
        refine lv_iload_n hx hb dX4_noRow_22 rfl (lv_at hl 1 rfl) ?_
        have hq10 := hX.hold hA v1 (by omega)
        refine m_ci (va_runV (As := [.int (zI (v1 : Int))]) (rest := []) ⟨hx, hb, hml, hown, hts⟩ (metX4_isRow (k := v1) (by omega)) (cwV 1 hts (lw_V q3439 q3441 qs45 q102 q3442) rfl rfl rfl (by decide +kernel) ⟨Nat.le_of_ble_eq_true rfl, Nat.le_of_ble_eq_true rfl⟩) (m_preV hG) rfl rfl hl.1 rfl (lv_room (Nat.le_of_ble_eq_true rfl)) dX4_noRow_23 ⟨Nat.le_of_ble_eq_true rfl, Nat.le_of_ble_eq_true rfl⟩) hG (fun r_5 S_6 H locs hp hG => ?_)
        obtain ⟨b10, rfl, hb10, rfl⟩ := hp
        have hG : mW X mo ad S s H locs := hG
        refine g_ne (tgt := 32) hx hb dX4_noRow_26 (by decide) (by omega) (fun h11 => ?_) (fun h11 => ?_)
        · refine lv_aload_n hx hb dX4_noRow_32 rfl (lv_at hl 0 rfl) ?_
          refine m_get 9 (by decide) (v := .ref (ad 9)) rfl hx hb hts hown hG (hts _ q3305) dX4_noRow_33 ?_
          refine lv_iload_n hx hb dX4_noRow_36 rfl (lv_at hl 1 rfl) ?_
          refine m_iald 9 rfl rfl (by decide) v1 (v := (100 + (sov : Int))) ⟨by omega, by show _ < 8; omega⟩ hshv hx hb hG dX4_noRow_37 ?_
          refine g_ge (tgt := 46) hx hb dX4_noRow_38 (by decide) (by omega) (fun h12 => ?_) (fun h12 => ?_)
          · refine lv_iconst (v := zI 0) hx hb dX4_noRow_46 (by decide +kernel) ?_
            exact m_iret hx hb hr hlocks hG (by first | (exfalso; omega) | exact (by rw [show j = 0 from hj.symm.trans (by unfold aBar; rw [if_neg (by omega)]; simp only [Int.toNat_natCast, hsvv])]; exact ⟨rfl, rfl⟩)) ⟨Nat.le_of_ble_eq_true rfl, Nat.le_of_ble_eq_true rfl⟩ dX4_noRow_47
          · exfalso; omega
        · refine lv_bipush (v := zI (-2)) hx hb dX4_noRow_29 (by decide +kernel) ?_
          exact m_iret hx hb hr hlocks hG (by first | (exfalso; omega) | exact (by rw [show j = 0 from hj.symm.trans (by unfold aBar; rw [if_neg (by omega)]; simp only [Int.toNat_natCast, hsvv])]; exact ⟨rfl, rfl⟩)) ⟨Nat.le_of_ble_eq_true rfl, Nat.le_of_ble_eq_true rfl⟩ dX4_noRow_31
  · refine lv_iconst (v := zI (-1)) hx hb dX4_noRow_10 (by decide +kernel) ?_
    exact m_iret hx hb hr hlocks hG (by first | (exfalso; omega) | exact (by rw [show j = 1 from hj.symm.trans (by unfold aBar; rw [if_pos (by omega)])]; exact ⟨rfl, rfl⟩)) ⟨Nat.le_of_ble_eq_true rfl, Nat.le_of_ble_eq_true rfl⟩ dX4_noRow_11

