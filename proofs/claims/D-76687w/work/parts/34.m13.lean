set_option maxRecDepth 100000
def wkF (w : aW) (m t n d : Nat) : Wk := wkTo w (wRk w m) (rKind (wRk w m)) t n d
def pOf (k : Wk) : Int := if kHow k = 3 then -1 else (kP k : Nat)
def qOf (k : Wk) : Int := if kHow k = 3 then -1 else (kQ k : Nat)
def opPut (a : aS) (x y what : Int) : Int × aS := if ¬ ((0 ≤ x ∧ x < wM (aWd a)) ∧ 0 ≤ y ∧ y < wN (aWd a)) then aNoT a 1 else if ¬ (0 ≤ what ∧ what ≤ 2) then aNoT a 5 else match beh (wFo (aWd a)) y.toNat (rOn (wRk (aWd a) x.toNat)) with
  | none => aNoT a 6
  | some n => if what = 0 then (pOf (wkF (aWd a) x.toNat y.toNat n n), a) else if what = 1 then (qOf (wkF (aWd a) x.toNat y.toNat n n), a) else ((kHow (wkF (aWd a) x.toNat y.toNat n n) : Nat), a)
def opScore (a : aS) (x y i : Int) : Int × aS := if ¬ ((0 ≤ x ∧ x < wM (aWd a)) ∧ 0 ≤ y ∧ y < wN (aWd a)) then aNoR a 1 else match beh (wFo (aWd a)) y.toNat (rOn (wRk (aWd a) x.toNat)) with
  | none => aNoR a 6
  | some 0 => aNoR a 6
  | some (n + 1) => if ¬ (0 ≤ i ∧ i < (scN (wTx (aWd a) y.toNat) (kLP (wkF (aWd a) x.toNat y.toNat (n + 1) n)) (kLQ (wkF (aWd a) x.toNat y.toNat (n + 1) n)) : Nat)) then aNoR a 5 else ((sc (wTx (aWd a) (kL (wkF (aWd a) x.toNat y.toNat (n + 1) n))) (wTx (aWd a) y.toNat) (kLP (wkF (aWd a) x.toNat y.toNat (n + 1) n)) (kLQ (wkF (aWd a) x.toNat y.toNat (n + 1) n)) i.toNat : Nat), a)
def opLeast (a : aS) (x y : Int) : Int × aS := if ¬ ((0 ≤ x ∧ x < wM (aWd a)) ∧ 0 ≤ y ∧ y < wN (aWd a)) then aNoT a 1 else match beh (wFo (aWd a)) y.toNat (rOn (wRk (aWd a) x.toNat)) with
  | none => aNoT a 6
  | some 0 => aNoT a 6
  | some (n + 1) => match looks (aWd a) (kL (wkF (aWd a) x.toNat y.toNat (n + 1) n)) (kLP (wkF (aWd a) x.toNat y.toNat (n + 1) n)) (kLQ (wkF (aWd a) x.toNat y.toNat (n + 1) n)) y.toNat with
    | none => (-1, a)
    | some v => ((sc (wTx (aWd a) (kL (wkF (aWd a) x.toNat y.toNat (n + 1) n))) (wTx (aWd a) y.toNat) (kLP (wkF (aWd a) x.toNat y.toNat (n + 1) n)) (kLQ (wkF (aWd a) x.toNat y.toNat (n + 1) n)) v : Nat), a)
/-- where a remark is put: none where it isn't, or lost -/
def wPut (w : aW) (t m : Nat) : Option (Nat × Nat) := match beh (wFo w) t (rOn (wRk w m)) with
  | none => none
  | some n => if kHow (wkF w m t n n) = 3 then none else some (kP (wkF w m t n n), kQ (wkF w m t n n))
theorem mWk.p {S : mS} {w : aW} {k : Wk} (h : mWk S w k) : S.1 31 = pOf k := by
  unfold pOf
  by_cases h3 : kHow k = 3
  · rw [if_pos h3]; exact (h.2.2.1 h3).1
  · rw [if_neg h3]; exact (h.2.1 h3).1
theorem mWk.q {S : mS} {w : aW} {k : Wk} (h : mWk S w k) : S.1 32 = qOf k := by
  unfold qOf
  by_cases h3 : kHow k = 3
  · rw [if_pos h3]; exact (h.2.2.1 h3).2
  · rw [if_neg h3]; exact (h.2.1 h3).2.1
theorem beh_z {fo : Nat → Option Nat} (hf : ∀ r f, fo r = some f → f < r) {t r : Nat} (h : beh fo t r = some 0) : t = r := (beh_anc hf 0 t r h).2.2
set_option maxHeartbeats 4000000 in
theorem metX4_put {l : Launch} {X : gX} {mo : Nat} {ad : Nat → Nat} {S : mS} {a : aS} (hX : mX S a) (hA : aOK a) {x y what : Int} (hr0 : -2147483648 ≤ x ∧ x < 2147483648 ∧ -2147483648 ≤ y ∧ y < 2147483648 ∧ -2147483648 ≤ what ∧ what < 2147483648) : Met l yX4_put (ws_ yX4_put cX4_put 4 (some FieldType.int)) ({ frames := 5, cells := 0, slots := 0, locals := 122 }) (mP X mo ad S [.ref mo, .int (zI x), .int (zI y), .int (zI what)]) (mQi X mo ad (fun u T => u = zI (opPut a x y what).1 ∧ mX T (opPut a x y what).2)) 0 0 (mA mo ad) := by
  refine Met.m (by decide) (Nat.le_of_ble_eq_true rfl) ?_
  intro p e s m below meth c ls hx hb hr hts hown hlocks hml hG hl
  have hl : lv_has ls 4 [(0, .ref mo), (1, .int (zI x)), (2, .int (zI y)), (3, .int (zI what))] := hl
  have hNN := hA.w.n
  have hMM := hA.w.m
  refine lv_aload_n hx hb dX4_put_0 rfl (lv_at hl 0 rfl) ?_
  refine lv_iload_n hx hb dX4_put_1 rfl (lv_at hl 1 rfl) ?_
  have hq1 := hX.o.m
  have hQ1 := hA.w.m
  refine m_ci (va_runV (As := [.int (zI x)]) (rest := []) ⟨hx, hb, hml, hown, hts⟩ (metX4_isRemark (by omega) (by omega)) (cwV 1 hts (lw_V q3455 q3457 qs46 q102 q3458) rfl rfl rfl (by decide +kernel) ⟨Nat.le_of_ble_eq_true rfl, Nat.le_of_ble_eq_true rfl⟩) (m_preV hG) rfl rfl hl.1 rfl (lv_room (Nat.le_of_ble_eq_true rfl)) dX4_put_2 ⟨Nat.le_of_ble_eq_true rfl, Nat.le_of_ble_eq_true rfl⟩) hG (fun r_1 S_2 H locs hp hG => ?_)
  obtain ⟨b1, rfl, hb1, rfl⟩ := hp
  have hG : mW X mo ad S s H locs := hG
  refine g_eq (tgt := 16) hx hb dX4_put_5 (by decide) (by omega) (fun h2 => ?_) (fun h2 => ?_)
  · refine lv_aload_n hx hb dX4_put_16 rfl (lv_at hl 0 rfl) ?_
    refine lv_iconst (v := zI (-1)) hx hb dX4_put_17 (by decide +kernel) ?_
    refine g_topz (y := -((1 : Nat) : Int)) (by decide) ?_
    refine m_ci (va_runV (As := [.int (zI (-((1 : Nat) : Int)))]) (rest := []) ⟨hx, hb, hml, hown, hts⟩ (metX4_no10 1 (by decide)) (cwV 1 hts (lw_V q3543 q3545 qs59 q102 q3546) rfl rfl rfl (by decide +kernel) ⟨Nat.le_of_ble_eq_true rfl, Nat.le_of_ble_eq_true rfl⟩) (m_preV hG) rfl rfl hl.1 rfl (lv_room (Nat.le_of_ble_eq_true rfl)) dX4_put_18 ⟨Nat.le_of_ble_eq_true rfl, Nat.le_of_ble_eq_true rfl⟩) hG (fun r_3 S_4 H locs hp hG => ?_)
    obtain ⟨rfl, rfl⟩ := hp
    have hG : mW X mo ad (mNo S 1) s H locs := hG
    exact m_iret hx hb hr hlocks hG (by first | (exfalso; omega) | exact (hX.noT 1 (by unfold opPut; all_goals ((repeat (first | rw [if_pos (by omega)] | rw [if_neg (by omega)])) <;> rfl)))) ⟨Nat.le_of_ble_eq_true rfl, Nat.le_of_ble_eq_true rfl⟩ dX4_put_21
  · refine lv_aload_n hx hb dX4_put_8 rfl (lv_at hl 0 rfl) ?_
    refine lv_iload_n hx hb dX4_put_9 rfl (lv_at hl 2 rfl) ?_
    have hq3 := hX.o.n
    have hQ3 := hA.w.n
    refine m_ci (va_runV (As := [.int (zI y)]) (rest := []) ⟨hx, hb, hml, hown, hts⟩ (metX4_isRevision (by omega) (by omega)) (cwV 1 hts (lw_V q3481 q3483 qs48 q102 q3484) rfl rfl rfl (by decide +kernel) ⟨Nat.le_of_ble_eq_true rfl, Nat.le_of_ble_eq_true rfl⟩) (m_preV hG) rfl rfl hl.1 rfl (lv_room (Nat.le_of_ble_eq_true rfl)) dX4_put_10 ⟨Nat.le_of_ble_eq_true rfl, Nat.le_of_ble_eq_true rfl⟩) hG (fun r_5 S_6 H locs hp hG => ?_)
    obtain ⟨b3, rfl, hb3, rfl⟩ := hp
    have hG : mW X mo ad S s H locs := hG
    refine g_ne (tgt := 22) hx hb dX4_put_13 (by decide) (by omega) (fun h4 => ?_) (fun h4 => ?_)
    · obtain ⟨x1, rfl⟩ : ∃ n9 : Nat, x = n9 := ⟨x.toNat, by omega⟩
      obtain ⟨y1, rfl⟩ : ∃ n9 : Nat, y = n9 := ⟨y.toNat, by omega⟩
      refine lv_iload_n hx hb dX4_put_22 rfl (lv_at hl 3 rfl) ?_
      refine lv_iconst (v := zI 0) hx hb dX4_put_23 (by decide +kernel) ?_
      refine lv_iconst (v := zI 2) hx hb dX4_put_24 (by decide +kernel) ?_
      refine m_ci (va_runS (As := [.int (zI what), .int (zI 0), .int (zI 2)]) (rest := []) ⟨hx, hb, hml, hown, hts⟩ (metX4_within (by omega)) (va_cwS 3 hts (lw_S q3424 q3425 q102 q3426) rfl rfl rfl (by decide +kernel) ⟨Nat.le_of_ble_eq_true rfl, Nat.le_of_ble_eq_true rfl⟩) (m_preS hG) rfl rfl hl.1 rfl (lv_room (Nat.le_of_ble_eq_true rfl)) dX4_put_25 ⟨Nat.le_of_ble_eq_true rfl, Nat.le_of_ble_eq_true rfl⟩) hG (fun r_7 S_8 H locs hp hG => ?_)
      obtain ⟨bw5, rfl, hbw5, rfl⟩ := hp
      have hG : mW X mo ad S s H locs := hG
      refine g_ne (tgt := 38) hx hb dX4_put_28 (by decide) (by omega) (fun h6 => ?_) (fun h6 => ?_)
      · refine lv_aload_n hx hb dX4_put_38 rfl (lv_at hl 0 rfl) ?_
        refine lv_iload_n hx hb dX4_put_39 rfl (lv_at hl 1 rfl) ?_
        refine lv_aload_n hx hb dX4_put_40 rfl (lv_at hl 0 rfl) ?_
        refine lv_iconst (v := zI 0) hx hb dX4_put_41 (by decide +kernel) ?_
        refine lv_iload_n hx hb dX4_put_42 rfl (lv_at hl 1 rfl) ?_
        refine m_ci (va_runV (As := [.int (zI 0), .int (zI (x1 : Int))]) (rest := [.int (zI (x1 : Int)), .ref mo]) ⟨hx, hb, hml, hown, hts⟩ (metX4_of 0 (m0 := x1) (by omega)) (cwV 2 hts (lw_V q3467 q3469 qs47 q102 q3470) rfl rfl rfl (by decide +kernel) ⟨Nat.le_of_ble_eq_true rfl, Nat.le_of_ble_eq_true rfl⟩) (m_preV hG) rfl rfl hl.1 rfl (lv_room (Nat.le_of_ble_eq_true rfl)) dX4_put_43 ⟨Nat.le_of_ble_eq_true rfl, Nat.le_of_ble_eq_true rfl⟩) hG (fun r_9 S_10 H locs hp hG => ?_)
        obtain ⟨rfl, rfl⟩ := hp
        have hG : mW X mo ad S s H locs := hG
        refine g_topz (y := (rKind (wRk (aWd a) x1) : Int)) ((congrArg (S.2.1 6) (by omega : 16 * 0 + x1 = x1)).trans (hX.o.kd (m := x1) (by omega))) ?_
        have hv7 := hA.w.rk (m := x1) (by omega)
        refine lv_iload_n hx hb dX4_put_46 rfl (lv_at hl 2 rfl) ?_
        refine lv_iconst (v := zI 0) hx hb dX4_put_47 (by decide +kernel) ?_
        refine m_ci (va_runV (As := [.int (zI (x1 : Int)), .int (zI (rKind (wRk (aWd a) x1) : Int)), .int (zI (y1 : Int)), .int (zI 0)]) (rest := []) ⟨hx, hb, hml, hown, hts⟩ (metX4_puts (x := x1) (kd := (rKind (wRk (aWd a) x1))) (t := y1) (le := 0) hX.o hA.w (by omega) (by omega) (by omega) (fun _ _ => Nat.zero_le _)) (cwV 4 hts (lw_V q3611 q3613 qs67 q102 q3614) rfl rfl rfl (by decide +kernel) ⟨Nat.le_of_ble_eq_true rfl, Nat.le_of_ble_eq_true rfl⟩) (m_preV hG) rfl rfl hl.1 rfl (lv_room (Nat.le_of_ble_eq_true rfl)) dX4_put_48 ⟨Nat.le_of_ble_eq_true rfl, Nat.le_of_ble_eq_true rfl⟩) hG (fun r_11 S_12 H locs hp hG => ?_)
        obtain ⟨b1, rfl, hb1, hre1, hpl1⟩ := hp
        have hG : mW X mo ad S_12 s H locs := hG
        rcases hb1 with ⟨rfl, nn, hbh, hW⟩ | ⟨rfl, hbh⟩
        · refine g_ne (tgt := 61) hx hb dX4_put_51 (by decide) (by decide) (fun h6 => ?_) (fun h6 => ?_)
          · refine lv_iload_n hx hb dX4_put_61 rfl (lv_at hl 3 rfl) ?_
            refine g_ne (tgt := 72) hx hb dX4_put_62 (by decide) (by omega) (fun h8 => ?_) (fun h8 => ?_)
            · refine lv_iload_n hx hb dX4_put_72 rfl (lv_at hl 3 rfl) ?_
              refine lv_iconst (v := zI 1) hx hb dX4_put_73 (by decide +kernel) ?_
              refine g_cne (tgt := 84) hx hb dX4_put_74 (by decide) (by omega) (fun h9 => ?_) (fun h9 => ?_)
              · refine lv_aload_n hx hb dX4_put_84 rfl (lv_at hl 0 rfl) ?_
                refine m_get 33 (by decide) (v := .int (zI (kHow (wkF (aWd a) x1 y1 nn nn) : Int))) (congrArg (fun z => Value.int (zI z)) (show S_12.1 33 = (kHow (wkF (aWd a) x1 y1 nn nn) : Int) from hW.1)) hx hb hts hown hG (hts _ q3329) dX4_put_85 ?_
                exact m_iret hx hb hr hlocks hG (by first | (exfalso; omega) | exact (mX.cast (by unfold opPut; (repeat (first | rw [if_pos (by omega)] | rw [if_neg (by omega)])); simp only [Int.toNat_natCast, hbh]; (repeat (first | rw [if_pos (by omega)] | rw [if_neg (by omega)]))) (hX.real hre1))) ⟨Nat.le_of_ble_eq_true rfl, Nat.le_of_ble_eq_true rfl⟩ dX4_put_88
              · refine lv_aload_n hx hb dX4_put_77 rfl (lv_at hl 0 rfl) ?_
                refine m_get 32 (by decide) (v := .int (zI (qOf (wkF (aWd a) x1 y1 nn nn)))) (congrArg (fun z => Value.int (zI z)) (show S_12.1 32 = (qOf (wkF (aWd a) x1 y1 nn nn)) from hW.q)) hx hb hts hown hG (hts _ q3328) dX4_put_78 ?_
                refine lv_goto (tgt := 88) hx hb dX4_put_81 (by decide) ?_
                exact m_iret hx hb hr hlocks hG (by first | (exfalso; omega) | exact (mX.cast (by unfold opPut; (repeat (first | rw [if_pos (by omega)] | rw [if_neg (by omega)])); simp only [Int.toNat_natCast, hbh]; (repeat (first | rw [if_pos (by omega)] | rw [if_neg (by omega)]))) (hX.real hre1))) ⟨Nat.le_of_ble_eq_true rfl, Nat.le_of_ble_eq_true rfl⟩ dX4_put_88
            · refine lv_aload_n hx hb dX4_put_65 rfl (lv_at hl 0 rfl) ?_
              refine m_get 31 (by decide) (v := .int (zI (pOf (wkF (aWd a) x1 y1 nn nn)))) (congrArg (fun z => Value.int (zI z)) (show S_12.1 31 = (pOf (wkF (aWd a) x1 y1 nn nn)) from hW.p)) hx hb hts hown hG (hts _ q3327) dX4_put_66 ?_
              refine lv_goto (tgt := 88) hx hb dX4_put_69 (by decide) ?_
              exact m_iret hx hb hr hlocks hG (by first | (exfalso; omega) | exact (mX.cast (by unfold opPut; (repeat (first | rw [if_pos (by omega)] | rw [if_neg (by omega)])); simp only [Int.toNat_natCast, hbh]; (repeat (first | rw [if_pos (by omega)] | rw [if_neg (by omega)]))) (hX.real hre1))) ⟨Nat.le_of_ble_eq_true rfl, Nat.le_of_ble_eq_true rfl⟩ dX4_put_88
          · exfalso; omega
        · refine g_ne (tgt := 61) hx hb dX4_put_51 (by decide) (by decide) (fun h6 => ?_) (fun h6 => ?_)
          · exfalso; omega
          · refine lv_aload_n hx hb dX4_put_54 rfl (lv_at hl 0 rfl) ?_
            refine lv_bipush (v := zI (-6)) hx hb dX4_put_55 (by decide +kernel) ?_
            refine g_topz (y := -((6 : Nat) : Int)) (by decide) ?_
            refine m_ci (va_runV (As := [.int (zI (-((6 : Nat) : Int)))]) (rest := []) ⟨hx, hb, hml, hown, hts⟩ (metX4_no10 6 (by decide)) (cwV 1 hts (lw_V q3543 q3545 qs59 q102 q3546) rfl rfl rfl (by decide +kernel) ⟨Nat.le_of_ble_eq_true rfl, Nat.le_of_ble_eq_true rfl⟩) (m_preV hG) rfl rfl hl.1 rfl (lv_room (Nat.le_of_ble_eq_true rfl)) dX4_put_57 ⟨Nat.le_of_ble_eq_true rfl, Nat.le_of_ble_eq_true rfl⟩) hG (fun r_13 S_14 H locs hp hG => ?_)
            obtain ⟨rfl, rfl⟩ := hp
            have hG : mW X mo ad (mNo S_12 6) s H locs := hG
            exact m_iret hx hb hr hlocks hG ((hX.real hre1).noT 6 (by unfold opPut; (repeat (first | rw [if_pos (by omega)] | rw [if_neg (by omega)])); simp only [Int.toNat_natCast, hbh])) ⟨Nat.le_of_ble_eq_true rfl, Nat.le_of_ble_eq_true rfl⟩ dX4_put_60
      · refine lv_aload_n hx hb dX4_put_31 rfl (lv_at hl 0 rfl) ?_
        refine lv_bipush (v := zI (-5)) hx hb dX4_put_32 (by decide +kernel) ?_
        refine g_topz (y := -((5 : Nat) : Int)) (by decide) ?_
        refine m_ci (va_runV (As := [.int (zI (-((5 : Nat) : Int)))]) (rest := []) ⟨hx, hb, hml, hown, hts⟩ (metX4_no10 5 (by decide)) (cwV 1 hts (lw_V q3543 q3545 qs59 q102 q3546) rfl rfl rfl (by decide +kernel) ⟨Nat.le_of_ble_eq_true rfl, Nat.le_of_ble_eq_true rfl⟩) (m_preV hG) rfl rfl hl.1 rfl (lv_room (Nat.le_of_ble_eq_true rfl)) dX4_put_34 ⟨Nat.le_of_ble_eq_true rfl, Nat.le_of_ble_eq_true rfl⟩) hG (fun r_15 S_16 H locs hp hG => ?_)
        obtain ⟨rfl, rfl⟩ := hp
        have hG : mW X mo ad (mNo S 5) s H locs := hG
        exact m_iret hx hb hr hlocks hG (by first | (exfalso; omega) | exact (hX.noT 5 (by unfold opPut; all_goals ((repeat (first | rw [if_pos (by omega)] | rw [if_neg (by omega)])) <;> rfl)))) ⟨Nat.le_of_ble_eq_true rfl, Nat.le_of_ble_eq_true rfl⟩ dX4_put_37
    · refine lv_aload_n hx hb dX4_put_16 rfl (lv_at hl 0 rfl) ?_
      refine lv_iconst (v := zI (-1)) hx hb dX4_put_17 (by decide +kernel) ?_
      refine g_topz (y := -((1 : Nat) : Int)) (by decide) ?_
      refine m_ci (va_runV (As := [.int (zI (-((1 : Nat) : Int)))]) (rest := []) ⟨hx, hb, hml, hown, hts⟩ (metX4_no10 1 (by decide)) (cwV 1 hts (lw_V q3543 q3545 qs59 q102 q3546) rfl rfl rfl (by decide +kernel) ⟨Nat.le_of_ble_eq_true rfl, Nat.le_of_ble_eq_true rfl⟩) (m_preV hG) rfl rfl hl.1 rfl (lv_room (Nat.le_of_ble_eq_true rfl)) dX4_put_18 ⟨Nat.le_of_ble_eq_true rfl, Nat.le_of_ble_eq_true rfl⟩) hG (fun r_17 S_18 H locs hp hG => ?_)
      obtain ⟨rfl, rfl⟩ := hp
      have hG : mW X mo ad (mNo S 1) s H locs := hG
      exact m_iret hx hb hr hlocks hG (by first | (exfalso; omega) | exact (hX.noT 1 (by unfold opPut; all_goals ((repeat (first | rw [if_pos (by omega)] | rw [if_neg (by omega)])) <;> rfl)))) ⟨Nat.le_of_ble_eq_true rfl, Nat.le_of_ble_eq_true rfl⟩ dX4_put_21

set_option maxHeartbeats 4000000 in
theorem metX4_score_2 {l : Launch} {X : gX} {mo : Nat} {ad : Nat → Nat} {S : mS} {a : aS} (hX : mX S a) (hA : aOK a) {x y i : Int} (hr0 : -2147483648 ≤ x ∧ x < 2147483648 ∧ -2147483648 ≤ y ∧ y < 2147483648 ∧ -2147483648 ≤ i ∧ i < 2147483648) : Met l yX4_score_2 (ws_ yX4_score_2 cX4_score_2 4 (some FieldType.int)) ({ frames := 5, cells := 0, slots := 0, locals := 122 }) (mP X mo ad S [.ref mo, .int (zI x), .int (zI y), .int (zI i)]) (mQi X mo ad (fun u T => u = zI (opScore a x y i).1 ∧ mX T (opScore a x y i).2)) 0 0 (mA mo ad) := by
  refine Met.m (by decide) (Nat.le_of_ble_eq_true rfl) ?_
  intro p e s m below meth c ls hx hb hr hts hown hlocks hml hG hl
  have hl : lv_has ls 4 [(0, .ref mo), (1, .int (zI x)), (2, .int (zI y)), (3, .int (zI i))] := hl
  have hNN := hA.w.n
  have hMM := hA.w.m
  refine lv_aload_n hx hb dX4_score_2_0 rfl (lv_at hl 0 rfl) ?_
  refine lv_iload_n hx hb dX4_score_2_1 rfl (lv_at hl 1 rfl) ?_
  have hq1 := hX.o.m
  have hQ1 := hA.w.m
  refine m_ci (va_runV (As := [.int (zI x)]) (rest := []) ⟨hx, hb, hml, hown, hts⟩ (metX4_isRemark (by omega) (by omega)) (cwV 1 hts (lw_V q3455 q3457 qs46 q102 q3458) rfl rfl rfl (by decide +kernel) ⟨Nat.le_of_ble_eq_true rfl, Nat.le_of_ble_eq_true rfl⟩) (m_preV hG) rfl rfl hl.1 rfl (lv_room (Nat.le_of_ble_eq_true rfl)) dX4_score_2_2 ⟨Nat.le_of_ble_eq_true rfl, Nat.le_of_ble_eq_true rfl⟩) hG (fun r_1 S_2 H locs hp hG => ?_)
  obtain ⟨b1, rfl, hb1, rfl⟩ := hp
  have hG : mW X mo ad S s H locs := hG
  refine g_eq (tgt := 16) hx hb dX4_score_2_5 (by decide) (by omega) (fun h2 => ?_) (fun h2 => ?_)
  · refine lv_aload_n hx hb dX4_score_2_16 rfl (lv_at hl 0 rfl) ?_
    refine lv_iconst (v := zI (-1)) hx hb dX4_score_2_17 (by decide +kernel) ?_
    refine g_topz (y := -((1 : Nat) : Int)) (by decide) ?_
    refine m_ci (va_runV (As := [.int (zI (-((1 : Nat) : Int)))]) (rest := []) ⟨hx, hb, hml, hown, hts⟩ (metX4_no 1 (by decide)) (cwV 1 hts (lw_V q3427 q3429 qs43 q102 q3430) rfl rfl rfl (by decide +kernel) ⟨Nat.le_of_ble_eq_true rfl, Nat.le_of_ble_eq_true rfl⟩) (m_preV hG) rfl rfl hl.1 rfl (lv_room (Nat.le_of_ble_eq_true rfl)) dX4_score_2_18 ⟨Nat.le_of_ble_eq_true rfl, Nat.le_of_ble_eq_true rfl⟩) hG (fun r_3 S_4 H locs hp hG => ?_)
    obtain ⟨rfl, rfl⟩ := hp
    have hG : mW X mo ad (mNo S 1) s H locs := hG
    exact m_iret hx hb hr hlocks hG (by first | (exfalso; omega) | exact (hX.noR 1 (by unfold opScore; all_goals ((repeat (first | rw [if_pos (by omega)] | rw [if_neg (by omega)])) <;> rfl)))) ⟨Nat.le_of_ble_eq_true rfl, Nat.le_of_ble_eq_true rfl⟩ dX4_score_2_21
  · refine lv_aload_n hx hb dX4_score_2_8 rfl (lv_at hl 0 rfl) ?_
    refine lv_iload_n hx hb dX4_score_2_9 rfl (lv_at hl 2 rfl) ?_
    have hq3 := hX.o.n
    have hQ3 := hA.w.n
    refine m_ci (va_runV (As := [.int (zI y)]) (rest := []) ⟨hx, hb, hml, hown, hts⟩ (metX4_isRevision (by omega) (by omega)) (cwV 1 hts (lw_V q3481 q3483 qs48 q102 q3484) rfl rfl rfl (by decide +kernel) ⟨Nat.le_of_ble_eq_true rfl, Nat.le_of_ble_eq_true rfl⟩) (m_preV hG) rfl rfl hl.1 rfl (lv_room (Nat.le_of_ble_eq_true rfl)) dX4_score_2_10 ⟨Nat.le_of_ble_eq_true rfl, Nat.le_of_ble_eq_true rfl⟩) hG (fun r_5 S_6 H locs hp hG => ?_)
    obtain ⟨b3, rfl, hb3, rfl⟩ := hp
    have hG : mW X mo ad S s H locs := hG
    refine g_ne (tgt := 22) hx hb dX4_score_2_13 (by decide) (by omega) (fun h4 => ?_) (fun h4 => ?_)
    · obtain ⟨x1, rfl⟩ : ∃ n9 : Nat, x = n9 := ⟨x.toNat, by omega⟩
      obtain ⟨y1, rfl⟩ : ∃ n9 : Nat, y = n9 := ⟨y.toNat, by omega⟩
      refine lv_iload_n hx hb dX4_score_2_22 rfl (lv_at hl 2 rfl) ?_
      refine lv_aload_n hx hb dX4_score_2_23 rfl (lv_at hl 0 rfl) ?_
      refine lv_iconst (v := zI 2) hx hb dX4_score_2_24 (by decide +kernel) ?_
      refine lv_iload_n hx hb dX4_score_2_25 rfl (lv_at hl 1 rfl) ?_
      refine m_ci (va_runV (As := [.int (zI 2), .int (zI (x1 : Int))]) (rest := [.int (zI (y1 : Int))]) ⟨hx, hb, hml, hown, hts⟩ (metX4_of 2 (m0 := x1) (by omega)) (cwV 2 hts (lw_V q3467 q3469 qs47 q102 q3470) rfl rfl rfl (by decide +kernel) ⟨Nat.le_of_ble_eq_true rfl, Nat.le_of_ble_eq_true rfl⟩) (m_preV hG) rfl rfl hl.1 rfl (lv_room (Nat.le_of_ble_eq_true rfl)) dX4_score_2_26 ⟨Nat.le_of_ble_eq_true rfl, Nat.le_of_ble_eq_true rfl⟩) hG (fun r_7 S_8 H locs hp hG => ?_)
      obtain ⟨rfl, rfl⟩ := hp
      have hG : mW X mo ad S s H locs := hG
      refine g_topz (y := (rOn (wRk (aWd a) x1) : Int)) (hX.o.on (m := x1) (by omega)) ?_
      have hv5 := hA.w.rk (m := x1) (by omega)
      refine g_ceq (tgt := 48) hx hb dX4_score_2_29 (by decide) (by omega) (fun h5 => ?_) (fun h5 => ?_)
      · refine lv_aload_n hx hb dX4_score_2_48 rfl (lv_at hl 0 rfl) ?_
        refine lv_bipush (v := zI (-6)) hx hb dX4_score_2_49 (by decide +kernel) ?_
        refine g_topz (y := -((6 : Nat) : Int)) (by decide) ?_
        refine m_ci (va_runV (As := [.int (zI (-((6 : Nat) : Int)))]) (rest := []) ⟨hx, hb, hml, hown, hts⟩ (metX4_no 6 (by decide)) (cwV 1 hts (lw_V q3427 q3429 qs43 q102 q3430) rfl rfl rfl (by decide +kernel) ⟨Nat.le_of_ble_eq_true rfl, Nat.le_of_ble_eq_true rfl⟩) (m_preV hG) rfl rfl hl.1 rfl (lv_room (Nat.le_of_ble_eq_true rfl)) dX4_score_2_51 ⟨Nat.le_of_ble_eq_true rfl, Nat.le_of_ble_eq_true rfl⟩) hG (fun r_9 S_10 H locs hp hG => ?_)
        obtain ⟨rfl, rfl⟩ := hp
        have hG : mW X mo ad (mNo S 6) s H locs := hG
        exact m_iret hx hb hr hlocks hG (hX.noR 6 (by unfold opScore; (repeat (first | rw [if_pos (by omega)] | rw [if_neg (by omega)])); simp only [Int.toNat_natCast, show beh (wFo (aWd a)) y1 (rOn (wRk (aWd a) x1)) = some 0 by rw [show y1 = rOn (wRk (aWd a) x1) by omega, beh_self]])) ⟨Nat.le_of_ble_eq_true rfl, Nat.le_of_ble_eq_true rfl⟩ dX4_score_2_54
      · refine lv_aload_n hx hb dX4_score_2_32 rfl (lv_at hl 0 rfl) ?_
        refine lv_iload_n hx hb dX4_score_2_33 rfl (lv_at hl 1 rfl) ?_
        refine lv_aload_n hx hb dX4_score_2_34 rfl (lv_at hl 0 rfl) ?_
        refine lv_iconst (v := zI 0) hx hb dX4_score_2_35 (by decide +kernel) ?_
        refine lv_iload_n hx hb dX4_score_2_36 rfl (lv_at hl 1 rfl) ?_
        refine m_ci (va_runV (As := [.int (zI 0), .int (zI (x1 : Int))]) (rest := [.int (zI (x1 : Int)), .ref mo]) ⟨hx, hb, hml, hown, hts⟩ (metX4_of 0 (m0 := x1) (by omega)) (cwV 2 hts (lw_V q3467 q3469 qs47 q102 q3470) rfl rfl rfl (by decide +kernel) ⟨Nat.le_of_ble_eq_true rfl, Nat.le_of_ble_eq_true rfl⟩) (m_preV hG) rfl rfl hl.1 rfl (lv_room (Nat.le_of_ble_eq_true rfl)) dX4_score_2_37 ⟨Nat.le_of_ble_eq_true rfl, Nat.le_of_ble_eq_true rfl⟩) hG (fun r_11 S_12 H locs hp hG => ?_)
        obtain ⟨rfl, rfl⟩ := hp
        have hG : mW X mo ad S s H locs := hG
        refine g_topz (y := (rKind (wRk (aWd a) x1) : Int)) ((congrArg (S.2.1 6) (by omega : 16 * 0 + x1 = x1)).trans (hX.o.kd (m := x1) (by omega))) ?_
        have hv6 := hA.w.rk (m := x1) (by omega)
        refine lv_iload_n hx hb dX4_score_2_40 rfl (lv_at hl 2 rfl) ?_
        refine lv_iconst (v := zI 1) hx hb dX4_score_2_41 (by decide +kernel) ?_
        refine m_ci (va_runV (As := [.int (zI (x1 : Int)), .int (zI (rKind (wRk (aWd a) x1) : Int)), .int (zI (y1 : Int)), .int (zI 1)]) (rest := []) ⟨hx, hb, hml, hown, hts⟩ (metX4_puts (x := x1) (kd := (rKind (wRk (aWd a) x1))) (t := y1) (le := 1) hX.o hA.w (by omega) (by omega) (by omega) (fun n9 hn9 => by cases n9 with
      | zero => have := beh_z hA.w.fo hn9; omega
      | succ n => omega)) (cwV 4 hts (lw_V q3611 q3613 qs67 q102 q3614) rfl rfl rfl (by decide +kernel) ⟨Nat.le_of_ble_eq_true rfl, Nat.le_of_ble_eq_true rfl⟩) (m_preV hG) rfl rfl hl.1 rfl (lv_room (Nat.le_of_ble_eq_true rfl)) dX4_score_2_42 ⟨Nat.le_of_ble_eq_true rfl, Nat.le_of_ble_eq_true rfl⟩) hG (fun r_13 S_14 H locs hp hG => ?_)
        obtain ⟨b1, rfl, hb1, hre1, hpl1⟩ := hp
        have hG : mW X mo ad S_14 s H locs := hG
        rcases hb1 with ⟨rfl, nn, hbh, hW⟩ | ⟨rfl, hbh⟩
        · obtain ⟨n, rfl⟩ : ∃ n, nn = n + 1 := by cases nn with
      | zero => have := beh_z hA.w.fo hbh; omega
      | succ n => exact ⟨n, rfl⟩
          have hW : mWk S_14 (aWd a) (wkF (aWd a) x1 y1 (n + 1) n) := hW
          refine g_ne (tgt := 55) hx hb dX4_score_2_45 (by decide) (by decide) (fun h6 => ?_) (fun h6 => ?_)
          · have hR9 := (hX.real hre1).o.rv
            have hN24 : scN (wTx (aWd a) y1) (kLP (wkF (aWd a) x1 y1 (n + 1) n)) (kLQ (wkF (aWd a) x1 y1 (n + 1) n)) ≤ 24 := by have := (hA.w.tx (r := y1) (by omega)).1; unfold scN; omega
            refine lv_iload_n hx hb dX4_score_2_55 rfl (lv_at hl 3 rfl) ?_
            refine lv_iconst (v := zI 0) hx hb dX4_score_2_56 (by decide +kernel) ?_
            refine lv_aload_n hx hb dX4_score_2_57 rfl (lv_at hl 0 rfl) ?_
            refine lv_iload_n hx hb dX4_score_2_58 rfl (lv_at hl 2 rfl) ?_
            refine m_ci (va_runV (As := [.int (zI (y1 : Int))]) (rest := [.int (zI 0), .int (zI i)]) ⟨hx, hb, hml, hown, hts⟩ (metX4_placesOn (w := aWd a) (b := y1) (la := kL (wkF (aWd a) x1 y1 (n + 1) n)) (lp := kLP (wkF (aWd a) x1 y1 (n + 1) n)) (lq := kLQ (wkF (aWd a) x1 y1 (n + 1) n)) hR9 hA.w (by omega) hW.2.2.2.1) (cwV 1 hts (lw_V q3636 q3638 qs73 q102 q3639) rfl rfl rfl (by decide +kernel) ⟨Nat.le_of_ble_eq_true rfl, Nat.le_of_ble_eq_true rfl⟩) (m_preV hG) rfl rfl hl.1 rfl (lv_room (Nat.le_of_ble_eq_true rfl)) dX4_score_2_59 ⟨Nat.le_of_ble_eq_true rfl, Nat.le_of_ble_eq_true rfl⟩) hG (fun r_15 S_16 H locs hp hG => ?_)
            obtain ⟨rfl, rfl⟩ := hp
            have hG : mW X mo ad S_14 s H locs := hG
            refine lv_iconst (v := zI 1) hx hb dX4_score_2_62 (by decide +kernel) ?_
            refine g_isub hx hb dX4_score_2_63 ?_
            refine m_ci (va_runS (As := [.int (zI i), .int (zI 0), .int (zI ((scN (wTx (aWd a) y1) (kLP (wkF (aWd a) x1 y1 (n + 1) n)) (kLQ (wkF (aWd a) x1 y1 (n + 1) n)) : Int) - 1))]) (rest := []) ⟨hx, hb, hml, hown, hts⟩ (metX4_within (by omega)) (va_cwS 3 hts (lw_S q3424 q3425 q102 q3426) rfl rfl rfl (by decide +kernel) ⟨Nat.le_of_ble_eq_true rfl, Nat.le_of_ble_eq_true rfl⟩) (m_preS hG) rfl rfl hl.1 rfl (lv_room (Nat.le_of_ble_eq_true rfl)) dX4_score_2_64 ⟨Nat.le_of_ble_eq_true rfl, Nat.le_of_ble_eq_true rfl⟩) hG (fun r_17 S_18 H locs hp hG => ?_)
            obtain ⟨b9, rfl, hb9, rfl⟩ := hp
            have hG : mW X mo ad S_14 s H locs := hG
            refine g_eq (tgt := 79) hx hb dX4_score_2_67 (by decide) (by omega) (fun h9 => ?_) (fun h9 => ?_)
            · refine lv_aload_n hx hb dX4_score_2_79 rfl (lv_at hl 0 rfl) ?_
              refine lv_bipush (v := zI (-5)) hx hb dX4_score_2_80 (by decide +kernel) ?_
              refine g_topz (y := -((5 : Nat) : Int)) (by decide) ?_
              refine m_ci (va_runV (As := [.int (zI (-((5 : Nat) : Int)))]) (rest := []) ⟨hx, hb, hml, hown, hts⟩ (metX4_no 5 (by decide)) (cwV 1 hts (lw_V q3427 q3429 qs43 q102 q3430) rfl rfl rfl (by decide +kernel) ⟨Nat.le_of_ble_eq_true rfl, Nat.le_of_ble_eq_true rfl⟩) (m_preV hG) rfl rfl hl.1 rfl (lv_room (Nat.le_of_ble_eq_true rfl)) dX4_score_2_82 ⟨Nat.le_of_ble_eq_true rfl, Nat.le_of_ble_eq_true rfl⟩) hG (fun r_19 S_20 H locs hp hG => ?_)
              obtain ⟨rfl, rfl⟩ := hp
              have hG : mW X mo ad (mNo S_14 5) s H locs := hG
              exact m_iret hx hb hr hlocks hG ((hX.real hre1).noR 5 (by unfold opScore; (repeat (first | rw [if_pos (by omega)] | rw [if_neg (by omega)])); simp only [Int.toNat_natCast, hbh]; rw [if_pos (by omega)])) ⟨Nat.le_of_ble_eq_true rfl, Nat.le_of_ble_eq_true rfl⟩ dX4_score_2_85
            · obtain ⟨i1, rfl⟩ : ∃ n9 : Nat, i = n9 := ⟨i.toNat, by omega⟩
              have hL9 := hW.2.2.2.1.2.2.2
              refine lv_aload_n hx hb dX4_score_2_70 rfl (lv_at hl 0 rfl) ?_
              refine lv_iload_n hx hb dX4_score_2_71 rfl (lv_at hl 2 rfl) ?_
              refine lv_iload_n hx hb dX4_score_2_72 rfl (lv_at hl 3 rfl) ?_
              refine m_ci (va_runV (As := [.int (zI (y1 : Int)), .int (zI (i1 : Int))]) (rest := []) ⟨hx, hb, hml, hown, hts⟩ (metX4_score (w := aWd a) (b := y1) (la := kL (wkF (aWd a) x1 y1 (n + 1) n)) (lp := kLP (wkF (aWd a) x1 y1 (n + 1) n)) (lq := kLQ (wkF (aWd a) x1 y1 (n + 1) n)) hR9 hA.w (by omega) hW.2.2.2.1 (v := i1) (by have q9 : i1 < scN (wTx (aWd a) y1) (kLP (wkF (aWd a) x1 y1 (n + 1) n)) (kLQ (wkF (aWd a) x1 y1 (n + 1) n)) := (by omega); unfold scN at q9; omega)) (cwV 2 hts (lw_V q3640 q3642 qs74 q102 q3643) rfl rfl rfl (by decide +kernel) ⟨Nat.le_of_ble_eq_true rfl, Nat.le_of_ble_eq_true rfl⟩) (m_preV hG) rfl rfl hl.1 rfl (lv_room (Nat.le_of_ble_eq_true rfl)) dX4_score_2_73 ⟨Nat.le_of_ble_eq_true rfl, Nat.le_of_ble_eq_true rfl⟩) hG (fun r_21 S_22 H locs hp hG => ?_)
              obtain ⟨rfl, rfl⟩ := hp
              have hG : mW X mo ad S_14 s H locs := hG
              refine lv_goto (tgt := 85) hx hb dX4_score_2_76 (by decide) ?_
              exact m_iret hx hb hr hlocks hG (mX.cast (by unfold opScore; (repeat (first | rw [if_pos (by omega)] | rw [if_neg (by omega)])); simp only [Int.toNat_natCast, hbh]; rw [if_neg (by omega)]) (hX.real hre1)) ⟨Nat.le_of_ble_eq_true rfl, Nat.le_of_ble_eq_true rfl⟩ dX4_score_2_85
          · exfalso; omega
        · refine g_ne (tgt := 55) hx hb dX4_score_2_45 (by decide) (by decide) (fun h6 => ?_) (fun h6 => ?_)
          · exfalso; omega
          · refine lv_aload_n hx hb dX4_score_2_48 rfl (lv_at hl 0 rfl) ?_
            refine lv_bipush (v := zI (-6)) hx hb dX4_score_2_49 (by decide +kernel) ?_
            refine g_topz (y := -((6 : Nat) : Int)) (by decide) ?_
            refine m_ci (va_runV (As := [.int (zI (-((6 : Nat) : Int)))]) (rest := []) ⟨hx, hb, hml, hown, hts⟩ (metX4_no 6 (by decide)) (cwV 1 hts (lw_V q3427 q3429 qs43 q102 q3430) rfl rfl rfl (by decide +kernel) ⟨Nat.le_of_ble_eq_true rfl, Nat.le_of_ble_eq_true rfl⟩) (m_preV hG) rfl rfl hl.1 rfl (lv_room (Nat.le_of_ble_eq_true rfl)) dX4_score_2_51 ⟨Nat.le_of_ble_eq_true rfl, Nat.le_of_ble_eq_true rfl⟩) hG (fun r_23 S_24 H locs hp hG => ?_)
            obtain ⟨rfl, rfl⟩ := hp
            have hG : mW X mo ad (mNo S_14 6) s H locs := hG
            exact m_iret hx hb hr hlocks hG ((hX.real hre1).noR 6 (by unfold opScore; (repeat (first | rw [if_pos (by omega)] | rw [if_neg (by omega)])); simp only [Int.toNat_natCast, hbh])) ⟨Nat.le_of_ble_eq_true rfl, Nat.le_of_ble_eq_true rfl⟩ dX4_score_2_54
    · refine lv_aload_n hx hb dX4_score_2_16 rfl (lv_at hl 0 rfl) ?_
      refine lv_iconst (v := zI (-1)) hx hb dX4_score_2_17 (by decide +kernel) ?_
      refine g_topz (y := -((1 : Nat) : Int)) (by decide) ?_
      refine m_ci (va_runV (As := [.int (zI (-((1 : Nat) : Int)))]) (rest := []) ⟨hx, hb, hml, hown, hts⟩ (metX4_no 1 (by decide)) (cwV 1 hts (lw_V q3427 q3429 qs43 q102 q3430) rfl rfl rfl (by decide +kernel) ⟨Nat.le_of_ble_eq_true rfl, Nat.le_of_ble_eq_true rfl⟩) (m_preV hG) rfl rfl hl.1 rfl (lv_room (Nat.le_of_ble_eq_true rfl)) dX4_score_2_18 ⟨Nat.le_of_ble_eq_true rfl, Nat.le_of_ble_eq_true rfl⟩) hG (fun r_25 S_26 H locs hp hG => ?_)
      obtain ⟨rfl, rfl⟩ := hp
      have hG : mW X mo ad (mNo S 1) s H locs := hG
      exact m_iret hx hb hr hlocks hG (by first | (exfalso; omega) | exact (hX.noR 1 (by unfold opScore; all_goals ((repeat (first | rw [if_pos (by omega)] | rw [if_neg (by omega)])) <;> rfl)))) ⟨Nat.le_of_ble_eq_true rfl, Nat.le_of_ble_eq_true rfl⟩ dX4_score_2_21

set_option maxHeartbeats 4000000 in
theorem metX4_leastNeed {l : Launch} {X : gX} {mo : Nat} {ad : Nat → Nat} {S : mS} {a : aS} (hX : mX S a) (hA : aOK a) {x y : Int} (hr0 : -2147483648 ≤ x ∧ x < 2147483648 ∧ -2147483648 ≤ y ∧ y < 2147483648) : Met l yX4_leastNeed (ws_ yX4_leastNeed cX4_leastNeed 3 (some FieldType.int)) ({ frames := 5, cells := 0, slots := 0, locals := 122 }) (mP X mo ad S [.ref mo, .int (zI x), .int (zI y)]) (mQi X mo ad (fun u T => u = zI (opLeast a x y).1 ∧ mX T (opLeast a x y).2)) 0 0 (mA mo ad) := by
  refine Met.m (by decide) (Nat.le_of_ble_eq_true rfl) ?_
  intro p e s m below meth c ls hx hb hr hts hown hlocks hml hG hl
  have hl : lv_has ls 3 [(0, .ref mo), (1, .int (zI x)), (2, .int (zI y))] := hl
  have hNN := hA.w.n
  have hMM := hA.w.m
  refine lv_aload_n hx hb dX4_leastNeed_0 rfl (lv_at hl 0 rfl) ?_
  refine lv_iload_n hx hb dX4_leastNeed_1 rfl (lv_at hl 1 rfl) ?_
  have hq1 := hX.o.m
  have hQ1 := hA.w.m
  refine m_ci (va_runV (As := [.int (zI x)]) (rest := []) ⟨hx, hb, hml, hown, hts⟩ (metX4_isRemark (by omega) (by omega)) (cwV 1 hts (lw_V q3455 q3457 qs46 q102 q3458) rfl rfl rfl (by decide +kernel) ⟨Nat.le_of_ble_eq_true rfl, Nat.le_of_ble_eq_true rfl⟩) (m_preV hG) rfl rfl hl.1 rfl (lv_room (Nat.le_of_ble_eq_true rfl)) dX4_leastNeed_2 ⟨Nat.le_of_ble_eq_true rfl, Nat.le_of_ble_eq_true rfl⟩) hG (fun r_1 S_2 H locs hp hG => ?_)
  obtain ⟨b1, rfl, hb1, rfl⟩ := hp
  have hG : mW X mo ad S s H locs := hG
  refine g_eq (tgt := 16) hx hb dX4_leastNeed_5 (by decide) (by omega) (fun h2 => ?_) (fun h2 => ?_)
  · refine lv_aload_n hx hb dX4_leastNeed_16 rfl (lv_at hl 0 rfl) ?_
    refine lv_iconst (v := zI (-1)) hx hb dX4_leastNeed_17 (by decide +kernel) ?_
    refine g_topz (y := -((1 : Nat) : Int)) (by decide) ?_
    refine m_ci (va_runV (As := [.int (zI (-((1 : Nat) : Int)))]) (rest := []) ⟨hx, hb, hml, hown, hts⟩ (metX4_no10 1 (by decide)) (cwV 1 hts (lw_V q3543 q3545 qs59 q102 q3546) rfl rfl rfl (by decide +kernel) ⟨Nat.le_of_ble_eq_true rfl, Nat.le_of_ble_eq_true rfl⟩) (m_preV hG) rfl rfl hl.1 rfl (lv_room (Nat.le_of_ble_eq_true rfl)) dX4_leastNeed_18 ⟨Nat.le_of_ble_eq_true rfl, Nat.le_of_ble_eq_true rfl⟩) hG (fun r_3 S_4 H locs hp hG => ?_)
    obtain ⟨rfl, rfl⟩ := hp
    have hG : mW X mo ad (mNo S 1) s H locs := hG
    exact m_iret hx hb hr hlocks hG (by first | (exfalso; omega) | exact (hX.noT 1 (by unfold opLeast; all_goals ((repeat (first | rw [if_pos (by omega)] | rw [if_neg (by omega)])) <;> rfl)))) ⟨Nat.le_of_ble_eq_true rfl, Nat.le_of_ble_eq_true rfl⟩ dX4_leastNeed_21
  · refine lv_aload_n hx hb dX4_leastNeed_8 rfl (lv_at hl 0 rfl) ?_
    refine lv_iload_n hx hb dX4_leastNeed_9 rfl (lv_at hl 2 rfl) ?_
    have hq3 := hX.o.n
    have hQ3 := hA.w.n
    refine m_ci (va_runV (As := [.int (zI y)]) (rest := []) ⟨hx, hb, hml, hown, hts⟩ (metX4_isRevision (by omega) (by omega)) (cwV 1 hts (lw_V q3481 q3483 qs48 q102 q3484) rfl rfl rfl (by decide +kernel) ⟨Nat.le_of_ble_eq_true rfl, Nat.le_of_ble_eq_true rfl⟩) (m_preV hG) rfl rfl hl.1 rfl (lv_room (Nat.le_of_ble_eq_true rfl)) dX4_leastNeed_10 ⟨Nat.le_of_ble_eq_true rfl, Nat.le_of_ble_eq_true rfl⟩) hG (fun r_5 S_6 H locs hp hG => ?_)
    obtain ⟨b3, rfl, hb3, rfl⟩ := hp
    have hG : mW X mo ad S s H locs := hG
    refine g_ne (tgt := 22) hx hb dX4_leastNeed_13 (by decide) (by omega) (fun h4 => ?_) (fun h4 => ?_)
    · obtain ⟨x1, rfl⟩ : ∃ n9 : Nat, x = n9 := ⟨x.toNat, by omega⟩
      obtain ⟨y1, rfl⟩ : ∃ n9 : Nat, y = n9 := ⟨y.toNat, by omega⟩
      refine lv_iload_n hx hb dX4_leastNeed_22 rfl (lv_at hl 2 rfl) ?_
      refine lv_aload_n hx hb dX4_leastNeed_23 rfl (lv_at hl 0 rfl) ?_
      refine lv_iconst (v := zI 2) hx hb dX4_leastNeed_24 (by decide +kernel) ?_
      refine lv_iload_n hx hb dX4_leastNeed_25 rfl (lv_at hl 1 rfl) ?_
      refine m_ci (va_runV (As := [.int (zI 2), .int (zI (x1 : Int))]) (rest := [.int (zI (y1 : Int))]) ⟨hx, hb, hml, hown, hts⟩ (metX4_of 2 (m0 := x1) (by omega)) (cwV 2 hts (lw_V q3467 q3469 qs47 q102 q3470) rfl rfl rfl (by decide +kernel) ⟨Nat.le_of_ble_eq_true rfl, Nat.le_of_ble_eq_true rfl⟩) (m_preV hG) rfl rfl hl.1 rfl (lv_room (Nat.le_of_ble_eq_true rfl)) dX4_leastNeed_26 ⟨Nat.le_of_ble_eq_true rfl, Nat.le_of_ble_eq_true rfl⟩) hG (fun r_7 S_8 H locs hp hG => ?_)
      obtain ⟨rfl, rfl⟩ := hp
      have hG : mW X mo ad S s H locs := hG
      refine g_topz (y := (rOn (wRk (aWd a) x1) : Int)) (hX.o.on (m := x1) (by omega)) ?_
      have hv5 := hA.w.rk (m := x1) (by omega)
      refine g_ceq (tgt := 48) hx hb dX4_leastNeed_29 (by decide) (by omega) (fun h5 => ?_) (fun h5 => ?_)
      · refine lv_aload_n hx hb dX4_leastNeed_48 rfl (lv_at hl 0 rfl) ?_
        refine lv_bipush (v := zI (-6)) hx hb dX4_leastNeed_49 (by decide +kernel) ?_
        refine g_topz (y := -((6 : Nat) : Int)) (by decide) ?_
        refine m_ci (va_runV (As := [.int (zI (-((6 : Nat) : Int)))]) (rest := []) ⟨hx, hb, hml, hown, hts⟩ (metX4_no10 6 (by decide)) (cwV 1 hts (lw_V q3543 q3545 qs59 q102 q3546) rfl rfl rfl (by decide +kernel) ⟨Nat.le_of_ble_eq_true rfl, Nat.le_of_ble_eq_true rfl⟩) (m_preV hG) rfl rfl hl.1 rfl (lv_room (Nat.le_of_ble_eq_true rfl)) dX4_leastNeed_51 ⟨Nat.le_of_ble_eq_true rfl, Nat.le_of_ble_eq_true rfl⟩) hG (fun r_9 S_10 H locs hp hG => ?_)
        obtain ⟨rfl, rfl⟩ := hp
        have hG : mW X mo ad (mNo S 6) s H locs := hG
        exact m_iret hx hb hr hlocks hG (hX.noT 6 (by unfold opLeast; (repeat (first | rw [if_pos (by omega)] | rw [if_neg (by omega)])); simp only [Int.toNat_natCast, show beh (wFo (aWd a)) y1 (rOn (wRk (aWd a) x1)) = some 0 by rw [show y1 = rOn (wRk (aWd a) x1) by omega, beh_self]])) ⟨Nat.le_of_ble_eq_true rfl, Nat.le_of_ble_eq_true rfl⟩ dX4_leastNeed_54
      · refine lv_aload_n hx hb dX4_leastNeed_32 rfl (lv_at hl 0 rfl) ?_
        refine lv_iload_n hx hb dX4_leastNeed_33 rfl (lv_at hl 1 rfl) ?_
        refine lv_aload_n hx hb dX4_leastNeed_34 rfl (lv_at hl 0 rfl) ?_
        refine lv_iconst (v := zI 0) hx hb dX4_leastNeed_35 (by decide +kernel) ?_
        refine lv_iload_n hx hb dX4_leastNeed_36 rfl (lv_at hl 1 rfl) ?_
        refine m_ci (va_runV (As := [.int (zI 0), .int (zI (x1 : Int))]) (rest := [.int (zI (x1 : Int)), .ref mo]) ⟨hx, hb, hml, hown, hts⟩ (metX4_of 0 (m0 := x1) (by omega)) (cwV 2 hts (lw_V q3467 q3469 qs47 q102 q3470) rfl rfl rfl (by decide +kernel) ⟨Nat.le_of_ble_eq_true rfl, Nat.le_of_ble_eq_true rfl⟩) (m_preV hG) rfl rfl hl.1 rfl (lv_room (Nat.le_of_ble_eq_true rfl)) dX4_leastNeed_37 ⟨Nat.le_of_ble_eq_true rfl, Nat.le_of_ble_eq_true rfl⟩) hG (fun r_11 S_12 H locs hp hG => ?_)
        obtain ⟨rfl, rfl⟩ := hp
        have hG : mW X mo ad S s H locs := hG
        refine g_topz (y := (rKind (wRk (aWd a) x1) : Int)) ((congrArg (S.2.1 6) (by omega : 16 * 0 + x1 = x1)).trans (hX.o.kd (m := x1) (by omega))) ?_
        have hv6 := hA.w.rk (m := x1) (by omega)
        refine lv_iload_n hx hb dX4_leastNeed_40 rfl (lv_at hl 2 rfl) ?_
        refine lv_iconst (v := zI 1) hx hb dX4_leastNeed_41 (by decide +kernel) ?_
        refine m_ci (va_runV (As := [.int (zI (x1 : Int)), .int (zI (rKind (wRk (aWd a) x1) : Int)), .int (zI (y1 : Int)), .int (zI 1)]) (rest := []) ⟨hx, hb, hml, hown, hts⟩ (metX4_puts (x := x1) (kd := (rKind (wRk (aWd a) x1))) (t := y1) (le := 1) hX.o hA.w (by omega) (by omega) (by omega) (fun n9 hn9 => by cases n9 with
      | zero => have := beh_z hA.w.fo hn9; omega
      | succ n => omega)) (cwV 4 hts (lw_V q3611 q3613 qs67 q102 q3614) rfl rfl rfl (by decide +kernel) ⟨Nat.le_of_ble_eq_true rfl, Nat.le_of_ble_eq_true rfl⟩) (m_preV hG) rfl rfl hl.1 rfl (lv_room (Nat.le_of_ble_eq_true rfl)) dX4_leastNeed_42 ⟨Nat.le_of_ble_eq_true rfl, Nat.le_of_ble_eq_true rfl⟩) hG (fun r_13 S_14 H locs hp hG => ?_)
        obtain ⟨b1, rfl, hb1, hre1, hpl1⟩ := hp
        have hG : mW X mo ad S_14 s H locs := hG
        rcases hb1 with ⟨rfl, nn, hbh, hW⟩ | ⟨rfl, hbh⟩
        · obtain ⟨n, rfl⟩ : ∃ n, nn = n + 1 := by cases nn with
      | zero => have := beh_z hA.w.fo hbh; omega
      | succ n => exact ⟨n, rfl⟩
          have hW : mWk S_14 (aWd a) (wkF (aWd a) x1 y1 (n + 1) n) := hW
          refine g_ne (tgt := 55) hx hb dX4_leastNeed_45 (by decide) (by decide) (fun h6 => ?_) (fun h6 => ?_)
          · have hR9 := (hX.real hre1).o.rv
            have hL9 := hW.2.2.2.1
            refine lv_aload_n hx hb dX4_leastNeed_55 rfl (lv_at hl 0 rfl) ?_
            refine lv_iload_n hx hb dX4_leastNeed_56 rfl (lv_at hl 2 rfl) ?_
            refine m_cv (va_runV (As := [.int (zI (y1 : Int))]) (rest := []) ⟨hx, hb, hml, hown, hts⟩ (metX4_looks (w := aWd a) (b := y1) (la := kL (wkF (aWd a) x1 y1 (n + 1) n)) (lp := kLP (wkF (aWd a) x1 y1 (n + 1) n)) (lq := kLQ (wkF (aWd a) x1 y1 (n + 1) n)) hR9 hA.w (by omega) hW.2.2.2.1 (hX.real hre1).o.mar) (cwV 1 hts (lw_V q3632 q3634 qs72 q102 q3635) rfl rfl rfl (by decide +kernel) ⟨Nat.le_of_ble_eq_true rfl, Nat.le_of_ble_eq_true rfl⟩) (m_preV hG) rfl rfl hl.1 rfl (lv_room (Nat.le_of_ble_eq_true rfl)) dX4_leastNeed_57 ⟨Nat.le_of_ble_eq_true rfl, Nat.le_of_ble_eq_true rfl⟩) hG (fun S_16 H locs hp hG => ?_)
            obtain ⟨hag, hlN, hlS⟩ := hp
            have hG : mW X mo ad S_16 s H locs := hG
            have hre := hre1.tr (mScr.ag hag).real
            rcases hbS : bsS (sc (wTx (aWd a) (kL (wkF (aWd a) x1 y1 (n + 1) n))) (wTx (aWd a) y1) (kLP (wkF (aWd a) x1 y1 (n + 1) n)) (kLQ (wkF (aWd a) x1 y1 (n + 1) n))) (scN (wTx (aWd a) y1) (kLP (wkF (aWd a) x1 y1 (n + 1) n)) (kLQ (wkF (aWd a) x1 y1 (n + 1) n))) with _ | v
            · refine lv_aload_n hx hb dX4_leastNeed_60 rfl (lv_at hl 0 rfl) ?_
              refine m_get 40 (by decide) (v := .int (zI 0)) (congrArg (fun z => Value.int (zI z)) (show S_16.1 40 = 0 from (hlN hbS))) hx hb hts hown hG (hts _ q3336) dX4_leastNeed_61 ?_
              refine g_eq (tgt := 74) hx hb dX4_leastNeed_64 (by decide) (by decide) (fun h8 => ?_) (fun h8 => ?_)
              · refine lv_iconst (v := zI (-1)) hx hb dX4_leastNeed_74 (by decide +kernel) ?_
                exact m_iret hx hb hr hlocks hG (mX.cast (by unfold opLeast; (repeat (first | rw [if_pos (by omega)] | rw [if_neg (by omega)])); simp only [Int.toNat_natCast, hbh]; rw [looks_n hbS]) (hX.real hre)) ⟨Nat.le_of_ble_eq_true rfl, Nat.le_of_ble_eq_true rfl⟩ dX4_leastNeed_75
              · exfalso; omega
            · obtain ⟨h38, h39, h40⟩ := hlS v hbS
              rcases hC : bsC (sc (wTx (aWd a) (kL (wkF (aWd a) x1 y1 (n + 1) n))) (wTx (aWd a) y1) (kLP (wkF (aWd a) x1 y1 (n + 1) n)) (kLQ (wkF (aWd a) x1 y1 (n + 1) n))) v (wMar (aWd a)) (scN (wTx (aWd a) y1) (kLP (wkF (aWd a) x1 y1 (n + 1) n)) (kLQ (wkF (aWd a) x1 y1 (n + 1) n))) with _ | _
              · rw [hC] at h40
                refine lv_aload_n hx hb dX4_leastNeed_60 rfl (lv_at hl 0 rfl) ?_
                refine m_get 40 (by decide) (v := .int (zI 0)) (congrArg (fun z => Value.int (zI z)) (show S_16.1 40 = 0 from h40)) hx hb hts hown hG (hts _ q3336) dX4_leastNeed_61 ?_
                refine g_eq (tgt := 74) hx hb dX4_leastNeed_64 (by decide) (by decide) (fun h8 => ?_) (fun h8 => ?_)
                · refine lv_iconst (v := zI (-1)) hx hb dX4_leastNeed_74 (by decide +kernel) ?_
                  exact m_iret hx hb hr hlocks hG (mX.cast (by unfold opLeast; (repeat (first | rw [if_pos (by omega)] | rw [if_neg (by omega)])); simp only [Int.toNat_natCast, hbh]; rw [looks_s hbS, if_neg (by rw [hC]; exact nofun)]) (hX.real hre)) ⟨Nat.le_of_ble_eq_true rfl, Nat.le_of_ble_eq_true rfl⟩ dX4_leastNeed_75
                · exfalso; omega
              · rw [hC] at h40
                refine lv_aload_n hx hb dX4_leastNeed_60 rfl (lv_at hl 0 rfl) ?_
                refine m_get 40 (by decide) (v := .int (zI 1)) (congrArg (fun z => Value.int (zI z)) (show S_16.1 40 = 1 from h40)) hx hb hts hown hG (hts _ q3336) dX4_leastNeed_61 ?_
                refine g_eq (tgt := 74) hx hb dX4_leastNeed_64 (by decide) (by decide) (fun h8 => ?_) (fun h8 => ?_)
                · exfalso; omega
                · refine lv_aload_n hx hb dX4_leastNeed_67 rfl (lv_at hl 0 rfl) ?_
                  refine m_get 39 (by decide) (v := .int (zI ((sc (wTx (aWd a) (kL (wkF (aWd a) x1 y1 (n + 1) n))) (wTx (aWd a) y1) (kLP (wkF (aWd a) x1 y1 (n + 1) n)) (kLQ (wkF (aWd a) x1 y1 (n + 1) n))) v : Int))) (congrArg (fun z => Value.int (zI z)) (show S_16.1 39 = ((sc (wTx (aWd a) (kL (wkF (aWd a) x1 y1 (n + 1) n))) (wTx (aWd a) y1) (kLP (wkF (aWd a) x1 y1 (n + 1) n)) (kLQ (wkF (aWd a) x1 y1 (n + 1) n))) v : Int) from h39)) hx hb hts hown hG (hts _ q3335) dX4_leastNeed_68 ?_
                  refine lv_goto (tgt := 75) hx hb dX4_leastNeed_71 (by decide) ?_
                  exact m_iret hx hb hr hlocks hG (mX.cast (by unfold opLeast; (repeat (first | rw [if_pos (by omega)] | rw [if_neg (by omega)])); simp only [Int.toNat_natCast, hbh]; rw [looks_s hbS, if_pos hC]) (hX.real hre)) ⟨Nat.le_of_ble_eq_true rfl, Nat.le_of_ble_eq_true rfl⟩ dX4_leastNeed_75
          · exfalso; omega
        · refine g_ne (tgt := 55) hx hb dX4_leastNeed_45 (by decide) (by decide) (fun h6 => ?_) (fun h6 => ?_)
          · exfalso; omega
          · refine lv_aload_n hx hb dX4_leastNeed_48 rfl (lv_at hl 0 rfl) ?_
            refine lv_bipush (v := zI (-6)) hx hb dX4_leastNeed_49 (by decide +kernel) ?_
            refine g_topz (y := -((6 : Nat) : Int)) (by decide) ?_
            refine m_ci (va_runV (As := [.int (zI (-((6 : Nat) : Int)))]) (rest := []) ⟨hx, hb, hml, hown, hts⟩ (metX4_no10 6 (by decide)) (cwV 1 hts (lw_V q3543 q3545 qs59 q102 q3546) rfl rfl rfl (by decide +kernel) ⟨Nat.le_of_ble_eq_true rfl, Nat.le_of_ble_eq_true rfl⟩) (m_preV hG) rfl rfl hl.1 rfl (lv_room (Nat.le_of_ble_eq_true rfl)) dX4_leastNeed_51 ⟨Nat.le_of_ble_eq_true rfl, Nat.le_of_ble_eq_true rfl⟩) hG (fun r_17 S_18 H locs hp hG => ?_)
            obtain ⟨rfl, rfl⟩ := hp
            have hG : mW X mo ad (mNo S_14 6) s H locs := hG
            exact m_iret hx hb hr hlocks hG ((hX.real hre1).noT 6 (by unfold opLeast; (repeat (first | rw [if_pos (by omega)] | rw [if_neg (by omega)])); simp only [Int.toNat_natCast, hbh])) ⟨Nat.le_of_ble_eq_true rfl, Nat.le_of_ble_eq_true rfl⟩ dX4_leastNeed_54
    · refine lv_aload_n hx hb dX4_leastNeed_16 rfl (lv_at hl 0 rfl) ?_
      refine lv_iconst (v := zI (-1)) hx hb dX4_leastNeed_17 (by decide +kernel) ?_
      refine g_topz (y := -((1 : Nat) : Int)) (by decide) ?_
      refine m_ci (va_runV (As := [.int (zI (-((1 : Nat) : Int)))]) (rest := []) ⟨hx, hb, hml, hown, hts⟩ (metX4_no10 1 (by decide)) (cwV 1 hts (lw_V q3543 q3545 qs59 q102 q3546) rfl rfl rfl (by decide +kernel) ⟨Nat.le_of_ble_eq_true rfl, Nat.le_of_ble_eq_true rfl⟩) (m_preV hG) rfl rfl hl.1 rfl (lv_room (Nat.le_of_ble_eq_true rfl)) dX4_leastNeed_18 ⟨Nat.le_of_ble_eq_true rfl, Nat.le_of_ble_eq_true rfl⟩) hG (fun r_19 S_20 H locs hp hG => ?_)
      obtain ⟨rfl, rfl⟩ := hp
      have hG : mW X mo ad (mNo S 1) s H locs := hG
      exact m_iret hx hb hr hlocks hG (by first | (exfalso; omega) | exact (hX.noT 1 (by unfold opLeast; all_goals ((repeat (first | rw [if_pos (by omega)] | rw [if_neg (by omega)])) <;> rfl)))) ⟨Nat.le_of_ble_eq_true rfl, Nat.le_of_ble_eq_true rfl⟩ dX4_leastNeed_21

set_option maxHeartbeats 4000000 in
theorem metX4_isPut {l : Launch} {X : gX} {mo : Nat} {ad : Nat → Nat} {S : mS} {w : aW} {x y : Nat} (hO : mO S w) (hK : wOK w) (hx9 : x < wM w) (hy9 : y < wN w) : Met l yX4_isPut (ws_ yX4_isPut cX4_isPut 3 (some FieldType.boolean)) ({ frames := 5, cells := 0, slots := 0, locals := 122 }) (mP X mo ad S [.ref mo, .int (zI (x : Int)), .int (zI (y : Int))]) (mQi X mo ad (fun u T => ∃ b : Int, u = zI b ∧ ((b = 1 ∧ ∃ pq : Nat × Nat, wPut w y x = some pq ∧ T.1 31 = (pq.1 : Nat) ∧ T.1 32 = (pq.2 : Nat) ∧ pq.1 ≤ pq.2 ∧ pq.2 < 24) ∨ (b = 0 ∧ wPut w y x = none)) ∧ mReal S T ∧ ∀ k, k ≠ 30 → T.2.1 k = S.2.1 k)) 0 0 (mA mo ad) := by
  refine Met.m (by decide) (Nat.le_of_ble_eq_true rfl) ?_
  intro p e s m below meth c ls hx hb hr hts hown hlocks hml hG hl
  have hl : lv_has ls 3 [(0, .ref mo), (1, .int (zI (x : Int))), (2, .int (zI (y : Int)))] := hl
  have hNN := hK.n
  have hMM := hK.m
  refine lv_aload_n hx hb dX4_isPut_0 rfl (lv_at hl 0 rfl) ?_
  refine lv_iload_n hx hb dX4_isPut_1 rfl (lv_at hl 1 rfl) ?_
  refine lv_aload_n hx hb dX4_isPut_2 rfl (lv_at hl 0 rfl) ?_
  refine lv_iconst (v := zI 0) hx hb dX4_isPut_3 (by decide +kernel) ?_
  refine lv_iload_n hx hb dX4_isPut_4 rfl (lv_at hl 1 rfl) ?_
  refine m_ci (va_runV (As := [.int (zI 0), .int (zI (x : Int))]) (rest := [.int (zI (x : Int)), .ref mo]) ⟨hx, hb, hml, hown, hts⟩ (metX4_of 0 (m0 := x) (by omega)) (cwV 2 hts (lw_V q3467 q3469 qs47 q102 q3470) rfl rfl rfl (by decide +kernel) ⟨Nat.le_of_ble_eq_true rfl, Nat.le_of_ble_eq_true rfl⟩) (m_preV hG) rfl rfl hl.1 rfl (lv_room (Nat.le_of_ble_eq_true rfl)) dX4_isPut_5 ⟨Nat.le_of_ble_eq_true rfl, Nat.le_of_ble_eq_true rfl⟩) hG (fun r_1 S_2 H locs hp hG => ?_)
  obtain ⟨rfl, rfl⟩ := hp
  have hG : mW X mo ad S s H locs := hG
  refine g_topz (y := (rKind (wRk w x) : Int)) ((congrArg (S.2.1 6) (by omega : 16 * 0 + x = x)).trans (hO.kd (m := x) (by omega))) ?_
  have hv1 := hK.rk (m := x) (by omega)
  refine lv_iload_n hx hb dX4_isPut_8 rfl (lv_at hl 2 rfl) ?_
  refine lv_iconst (v := zI 0) hx hb dX4_isPut_9 (by decide +kernel) ?_
  refine m_ci (va_runV (As := [.int (zI (x : Int)), .int (zI (rKind (wRk w x) : Int)), .int (zI (y : Int)), .int (zI 0)]) (rest := []) ⟨hx, hb, hml, hown, hts⟩ (metX4_puts (x := x) (kd := (rKind (wRk w x))) (t := y) (le := 0) hO hK (by omega) (by omega) (by omega) (fun _ _ => Nat.zero_le _)) (cwV 4 hts (lw_V q3611 q3613 qs67 q102 q3614) rfl rfl rfl (by decide +kernel) ⟨Nat.le_of_ble_eq_true rfl, Nat.le_of_ble_eq_true rfl⟩) (m_preV hG) rfl rfl hl.1 rfl (lv_room (Nat.le_of_ble_eq_true rfl)) dX4_isPut_10 ⟨Nat.le_of_ble_eq_true rfl, Nat.le_of_ble_eq_true rfl⟩) hG (fun r_3 S_4 H locs hp hG => ?_)
  obtain ⟨b1, rfl, hb1, hre1, hpl1⟩ := hp
  have hG : mW X mo ad S_4 s H locs := hG
  rcases hb1 with ⟨rfl, nn, hbh, hW⟩ | ⟨rfl, hbh⟩
  · have hW : mWk S_4 w (wkF w x y nn nn) := hW
    have hh3 := hW.2.2.2.2
    refine g_eq (tgt := 28) hx hb dX4_isPut_13 (by decide) (by decide) (fun h6 => ?_) (fun h6 => ?_)
    · exfalso; omega
    · refine lv_aload_n hx hb dX4_isPut_16 rfl (lv_at hl 0 rfl) ?_
      refine m_get 33 (by decide) (v := .int (zI (kHow (wkF w x y nn nn) : Int))) (congrArg (fun z => Value.int (zI z)) (show S_4.1 33 = (kHow (wkF w x y nn nn) : Int) from hW.1)) hx hb hts hown hG (hts _ q3329) dX4_isPut_17 ?_
      refine lv_iconst (v := zI 3) hx hb dX4_isPut_20 (by decide +kernel) ?_
      refine g_ceq (tgt := 28) hx hb dX4_isPut_21 (by decide) (by omega) (fun h7 => ?_) (fun h7 => ?_)
      · refine lv_iconst (v := zI 0) hx hb dX4_isPut_28 (by decide +kernel) ?_
        exact m_zret hx hb hr hlocks rfl hG (⟨0, rfl, Or.inr ⟨rfl, by unfold wPut; rw [hbh]; exact if_pos (by omega)⟩, hre1, hpl1⟩) ⟨Nat.le_of_ble_eq_true rfl, Nat.le_of_ble_eq_true rfl⟩ dX4_isPut_29
      · refine lv_iconst (v := zI 1) hx hb dX4_isPut_24 (by decide +kernel) ?_
        refine lv_goto (tgt := 29) hx hb dX4_isPut_25 (by decide) ?_
        exact m_zret hx hb hr hlocks rfl hG (⟨1, rfl, Or.inl ⟨rfl, (kP (wkF w x y nn nn), kQ (wkF w x y nn nn)), (by unfold wPut; rw [hbh]; exact if_neg (by omega)), (hW.2.1 (by omega)).1, (hW.2.1 (by omega)).2.1, (hW.2.1 (by omega)).2.2⟩, hre1, hpl1⟩) ⟨Nat.le_of_ble_eq_true rfl, Nat.le_of_ble_eq_true rfl⟩ dX4_isPut_29
  · refine g_eq (tgt := 28) hx hb dX4_isPut_13 (by decide) (by decide) (fun h6 => ?_) (fun h6 => ?_)
    · refine lv_iconst (v := zI 0) hx hb dX4_isPut_28 (by decide +kernel) ?_
      exact m_zret hx hb hr hlocks rfl hG (⟨0, rfl, Or.inr ⟨rfl, by unfold wPut; rw [hbh]⟩, hre1, hpl1⟩) ⟨Nat.le_of_ble_eq_true rfl, Nat.le_of_ble_eq_true rfl⟩ dX4_isPut_29
    · exfalso; omega

