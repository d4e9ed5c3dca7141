set_option maxRecDepth 100000
section MQ
variable {al : Nat → Nat → Bool} {n m i j : Nat} {s : PU}
theorem bsJ_skip {b : Nat × Nat × Nat} : ∀ d j, (∀ y, j ≤ y → y < j + d → rn al n m s i y = 0) → bsJ al n m s i (j + d) b = bsJ al n m s i j b := by
  intro d
  induction d with
  | zero => intro j _; rfl
  | succ d ih =>
    intro j h
    rw [show j + (d + 1) = (j + d) + 1 from rfl, bsJ_S, h (j + d) (by omega) (by omega), if_neg (Nat.not_lt_zero _)]
    exact ih j (fun y h1 h2 => h y h1 (by omega))
theorem bsI_skip {b : Nat × Nat × Nat} : ∀ d i, (∀ x, i ≤ x → x < i + d → ∀ j, rn al n m s x j = 0) → bsI al n m s (i + d) b = bsI al n m s i b := by
  intro d
  induction d with
  | zero => intro i _; rfl
  | succ d ih =>
    intro i h
    rw [show i + (d + 1) = (i + d) + 1 from rfl, bsI, ← ih i (fun x h1 h2 => h x h1 (by omega))]
    have := bsJ_skip (al := al) (n := n) (m := m) (s := s) (i := i + d) (b := bsI al n m s (i + d) b) m 0 (fun y _ _ => h (i + d) (by omega) (by omega) y)
    rw [Nat.zero_add] at this
    exact this
theorem bsJ_mono {b : Nat × Nat × Nat} : ∀ j, b.1 ≤ (bsJ al n m s i j b).1 := by
  intro j
  induction j with
  | zero => exact Nat.le_refl _
  | succ j ih => rw [bsJ_S]; split <;> first | exact ih | (show b.1 ≤ rn al n m s i j; omega)
theorem bsI_mono {b : Nat × Nat × Nat} : ∀ i, b.1 ≤ (bsI al n m s i b).1 := by
  intro i
  induction i with
  | zero => exact Nat.le_refl _
  | succ i ih => exact Nat.le_trans ih (bsJ_mono m)
theorem bsJ_up {b : Nat × Nat × Nat} (h : b.1 ≤ 24) (hn : n ≤ 24) : ∀ j, (bsJ al n m s i j b).1 ≤ 24 := by
  intro j
  induction j with
  | zero => exact h
  | succ j ih =>
    have := (@rn_le al n m i j s).1
    rw [bsJ_S]; split <;> first | exact ih | (show rn al n m s i j ≤ 24; omega)
theorem bsI_up {b : Nat × Nat × Nat} (h : b.1 ≤ 24) (hn : n ≤ 24) : ∀ i, (bsI al n m s i b).1 ≤ 24 := by
  intro i
  induction i with
  | zero => exact h
  | succ i ih => exact bsJ_up ih hn m
theorem bsI_x {r : Nat} (hr : 1 ≤ r) : ∀ i, if r ≤ (bsI al n m s i (0, 0, 0)).1 then bsI al n m s i (r - 1, 0, 0) = bsI al n m s i (0, 0, 0) else ((bsI al n m s i (r - 1, 0, 0)).1 = r - 1 ∧ (bsI al n m s i (0, 0, 0)).1 < r) := by
  intro i
  induction i with
  | zero => rw [if_neg (by show ¬ r ≤ 0; omega)]; exact ⟨rfl, by show 0 < r; omega⟩
  | succ i ih =>
    have := bsJ_x (al := al) (n := n) (m := m) (s := s) (i := i) hr ih m
    show if r ≤ (bsJ al n m s i m (bsI al n m s i (0, 0, 0))).1 then bsJ al n m s i m (bsI al n m s i (r - 1, 0, 0)) = bsJ al n m s i m (bsI al n m s i (0, 0, 0)) else _
    split at this
    · rename_i h; rw [if_pos h]; exact this
    · rename_i h; rw [if_neg h]; exact ⟨this.1, this.2.1⟩
end MQ
def mvFr (r : Nat) (c : Nat × Nat × Nat) : Int := if r ≤ c.1 then (c.2.1 : Int) else -1
def mvTo (r : Nat) (c : Nat × Nat × Nat) : Int := if r ≤ c.1 then (c.2.2 : Int) else -1
theorem rn_used {al : Nat → Nat → Bool} {na nb : Nat} {st : PU} {f : Nat → Int32} {xa xb x : Nat} (h : mtS na nb st f xa xb) (hb : xa.testBit x = true) (hx : x < 32) (j : Nat) : rn al na nb st x j = 0 := rn_stop (by
  rintro ⟨-, -, q, -⟩
  rw [h.2.1 x hx, q] at hb; cases hb)
theorem rn_usedB {al : Nat → Nat → Bool} {na nb : Nat} {st : PU} {f : Nat → Int32} {xa xb y : Nat} (h : mtS na nb st f xa xb) (hb : xb.testBit y = true) (hy : y < 32) (i : Nat) : rn al na nb st i y = 0 := rn_stop (by
  rintro ⟨-, -, -, q, -⟩
  rw [h.2.2.1 y hy, q] at hb; cases hb)
set_option maxHeartbeats 4000000 in
theorem metX15_pair {l : Launch} {X : gX} {F : gF} {V : gV} {Z : va_W} {q mt pl ua wa ub wb a b xa xb r : Nat} {z3 z4 iua iub : Int} {ta tb : Tx} {f : Nat → Int32} {fa fb : Nat → Int64} {st : PU} (hta : isText X F a ta) (htb : isText X F b tb) (hS : mtS ta.length tb.length st f xa xb) (hba : bsR xa iua fa) (hbb : bsR xb iub fb) {g : Nat → Nat → Int32} (hg : ∀ i, i ≤ ta.length → ∀ j, j ≤ tb.length → g i j = zI ((lc (alk ta tb) ta.length tb.length i j : Nat) : Int)) : Met l yX15_pair (ws_ yX15_pair cX15_pair 4 none) ({ frames := 4, cells := 0, slots := 0, locals := 88 }) (gP X F V ((q, aR (gT X 11) (ta.length + 1) (fun z => if z < ta.length + 1 then some (q + 1 + z) else none)) :: (mt, oB 13 [.int (zI (r : Int)), .int (zI (tb.length : Int)), .ref pl, .int (zI z3), .int (zI z4), .ref a, .ref b, .ref ua, .ref ub]) :: (pl, aI (gT X 0) ta.length f) :: (ua, oB 32 [.ref wa, .int (zI iua), .int (zI 0)]) :: (wa, aL (gT X 1) 1 fa) :: (ub, oB 32 [.ref wb, .int (zI iub), .int (zI 0)]) :: (wb, aL (gT X 1) 1 fb) :: (tbR X q (ta.length + 1) (tb.length + 1) g ++ Z)) [.ref mt, .ref q]) (gQv X (fun G U ws => F = G ∧ V = U ∧ ∃ (f9 : Nat → Int32) (ia9 ib9 : Int) (fa9 fb9 : Nat → Int64) (xa9 xb9 : Nat), mtS ta.length tb.length (prF (alk ta tb) ta.length tb.length (ta.length + tb.length) 0 0 st) f9 xa9 xb9 ∧ bsR xa9 ia9 fa9 ∧ bsR xb9 ib9 fb9 ∧ ((q, aR (gT X 11) (ta.length + 1) (fun z => if z < ta.length + 1 then some (q + 1 + z) else none)) :: (mt, oB 13 [.int (zI (r : Int)), .int (zI (tb.length : Int)), .ref pl, .int (zI z3), .int (zI z4), .ref a, .ref b, .ref ua, .ref ub]) :: (pl, aI (gT X 0) ta.length f9) :: (ua, oB 32 [.ref wa, .int (zI ia9), .int (zI 0)]) :: (wa, aL (gT X 1) 1 fa9) :: (ub, oB 32 [.ref wb, .int (zI ib9), .int (zI 0)]) :: (wb, aL (gT X 1) 1 fb9) :: (tbR X q (ta.length + 1) (tb.length + 1) g ++ Z)) = ws)) 0 0 (gA X) := by
  refine Met.g (by decide) (Nat.le_of_ble_eq_true rfl) ?_
  intro p e s m below meth c ls hx hb hr hts hown hlocks hml hin hG hl
  have hl : lv_has ls 4 [(0, .ref mt), (1, .ref q)] := hl
  obtain ⟨ga, hga1, hga2, hga3⟩ := hta
  have hgal := hga2
  obtain ⟨gb, hgb1, hgb2, hgb3⟩ := htb
  have hgbl := hgb2
  refine lv_iconst (v := zI 0) hx hb dX15_pair_0 (by decide +kernel) ?_
  refine lv_istore_n (lv' := [(2, .int (zI 0)), (0, .ref mt), (1, .ref q)]) hx hb dX15_pair_1 rfl hl (by decide) rfl (fun ls hl => ?_)
  refine lv_iconst (v := zI 0) hx hb dX15_pair_2 (by decide +kernel) ?_
  refine lv_istore_n (lv' := [(3, .int (zI 0)), (2, .int (zI 0)), (0, .ref mt), (1, .ref q)]) hx hb dX15_pair_3 rfl hl (by decide) rfl (fun ls hl => ?_)
  refine g_loop (fun mz H locs ls => ∃ (fu i j : Nat) (st1 : PU) (f1 : Nat → Int32) (ia1 ib1 : Int) (fa1 fb1 : Nat → Int64) (xa1 xb1 : Nat), (i ≤ ta.length ∧ j ≤ tb.length ∧ (ta.length - i) + (tb.length - j) ≤ fu ∧ mz = fu ∧ prF (alk ta tb) ta.length tb.length (ta.length + tb.length) 0 0 st = prF (alk ta tb) ta.length tb.length fu i j st1 ∧ mtS ta.length tb.length st1 f1 xa1 xb1 ∧ bsR xa1 ia1 fa1 ∧ bsR xb1 ib1 fb1) ∧ gW X F V ((q, aR (gT X 11) (ta.length + 1) (fun z => if z < ta.length + 1 then some (q + 1 + z) else none)) :: (mt, oB 13 [.int (zI (r : Int)), .int (zI (tb.length : Int)), .ref pl, .int (zI z3), .int (zI z4), .ref a, .ref b, .ref ua, .ref ub]) :: (pl, aI (gT X 0) ta.length f1) :: (ua, oB 32 [.ref wa, .int (zI ia1), .int (zI 0)]) :: (wa, aL (gT X 1) 1 fa1) :: (ub, oB 32 [.ref wb, .int (zI ib1), .int (zI 0)]) :: (wb, aL (gT X 1) 1 fb1) :: (tbR X q (ta.length + 1) (tb.length + 1) g ++ Z)) s H locs ∧ lv_has ls 4 [(0, .ref mt), (1, .ref q), (2, .int (zI (i : Int))), (3, .int (zI (j : Int)))]) (ta.length + tb.length) ⟨(ta.length + tb.length), 0, 0, st, f, iua, iub, fa, fb, xa, xb, ⟨Nat.zero_le _, Nat.zero_le _, by omega, rfl, rfl, hS, hba, hbb⟩, hG, (lv_sub hl [2, 3, 1, 0] rfl)⟩ (fun mz ihP H locs ls hI => ?_)
  obtain ⟨fu, i, j, st1, f1, ia1, ib1, fa1, fb1, xa1, xb1, ⟨hi, hj, hfu, hmz, hpr, hS1, hba1, hbb1⟩, hG, hl⟩ := hI
  refine lv_iload_n hx hb dX15_pair_4 rfl (lv_at hl 2 rfl) ?_
  refine lv_aload_n hx hb dX15_pair_5 rfl (lv_at hl 0 rfl) ?_
  refine g_get (ci := 13) hx hb hts in_X15 hown hG (hG.at 1 rfl) rfl 5 (Nat.le_of_ble_eq_true rfl) (hts _ q1918) (fun _ h9 => h9) rfl dX15_pair_6 ?_
  refine g_alen hx hb hG 6 rfl (hG.fz hga1) dX15_pair_9 ?_
  refine g_cge (tgt := 84) hx hb dX15_pair_10 (by decide) (by omega) (fun k1 => ?_) (fun k1 => ?_)
  · exact g_vret hx hb hr hlocks hG (⟨rfl, rfl, f1, ia1, ib1, fa1, fb1, xa1, xb1, by rw [hpr, prF_out (by omega)]; exact hS1, hba1, hbb1, rfl⟩) ⟨Nat.le_of_ble_eq_true rfl, Nat.le_of_ble_eq_true rfl⟩ dX15_pair_84
  · refine lv_iload_n hx hb dX15_pair_13 rfl (lv_at hl 3 rfl) ?_
    refine lv_aload_n hx hb dX15_pair_14 rfl (lv_at hl 0 rfl) ?_
    refine g_get (ci := 13) hx hb hts in_X15 hown hG (hG.at 1 rfl) rfl 6 (Nat.le_of_ble_eq_true rfl) (hts _ q1919) (fun _ h9 => h9) rfl dX15_pair_15 ?_
    refine g_alen hx hb hG 6 rfl (hG.fz hgb1) dX15_pair_18 ?_
    refine g_cge (tgt := 84) hx hb dX15_pair_19 (by decide) (by omega) (fun k2 => ?_) (fun k2 => ?_)
    · exact g_vret hx hb hr hlocks hG (⟨rfl, rfl, f1, ia1, ib1, fa1, fb1, xa1, xb1, by rw [hpr, prF_out (by omega)]; exact hS1, hba1, hbb1, rfl⟩) ⟨Nat.le_of_ble_eq_true rfl, Nat.le_of_ble_eq_true rfl⟩ dX15_pair_84
    · refine lv_aload_n hx hb dX15_pair_22 rfl (lv_at hl 0 rfl) ?_
      refine g_get (ci := 13) hx hb hts in_X15 hown hG (hG.at 1 rfl) rfl 5 (Nat.le_of_ble_eq_true rfl) (hts _ q1918) (fun _ h9 => h9) rfl dX15_pair_23 ?_
      refine lv_iload_n hx hb dX15_pair_26 rfl (lv_at hl 2 rfl) ?_
      obtain ⟨la, hla1, hla2⟩ := hga3 i (ta.getD i []) (gD_some (by omega))
      refine g_aald hx hb hG 6 rfl rfl (hG.fz hga1) i ⟨rfl, by omega, by omega⟩ (v := .ref la) (congrArg va_rf hla1) dX15_pair_27 ?_
      refine lv_aload_n hx hb dX15_pair_28 rfl (lv_at hl 0 rfl) ?_
      refine g_get (ci := 13) hx hb hts in_X15 hown hG (hG.at 1 rfl) rfl 6 (Nat.le_of_ble_eq_true rfl) (hts _ q1919) (fun _ h9 => h9) rfl dX15_pair_29 ?_
      refine lv_iload_n hx hb dX15_pair_32 rfl (lv_at hl 3 rfl) ?_
      obtain ⟨lb, hlb1, hlb2⟩ := hgb3 j (tb.getD j []) (gD_some (by omega))
      refine g_aald hx hb hG 6 rfl rfl (hG.fz hgb1) j ⟨rfl, by omega, by omega⟩ (v := .ref lb) (congrArg va_rf hlb1) dX15_pair_33 ?_
      refine g_ci (va_runV (As := [.ref lb]) (rest := []) ⟨hx, hb, hml, hown, hts⟩ (metX13_isAlike hla2 hlb2) (cwV 1 hts (lw_V q1822 q1823 q1824 q122 q1825) rfl rfl rfl (by decide +kernel) ⟨Nat.le_of_ble_eq_true rfl, Nat.le_of_ble_eq_true rfl⟩) (g_preV hG (hla2.recv hG)) rfl rfl hl.1 rfl (lv_room (Nat.le_of_ble_eq_true rfl)) dX15_pair_34 ⟨Nat.le_of_ble_eq_true rfl, Nat.le_of_ble_eq_true rfl⟩) hG (fun r_1 F_2 V_3 ws_ H locs hp hG => ?_)
      obtain ⟨rfl, rfl, rfl, rfl⟩ := hp
      have hG : gW X F V ((q, aR (gT X 11) (ta.length + 1) (fun z => if z < ta.length + 1 then some (q + 1 + z) else none)) :: (mt, oB 13 [.int (zI (r : Int)), .int (zI (tb.length : Int)), .ref pl, .int (zI z3), .int (zI z4), .ref a, .ref b, .ref ua, .ref ub]) :: (pl, aI (gT X 0) ta.length f1) :: (ua, oB 32 [.ref wa, .int (zI ia1), .int (zI 0)]) :: (wa, aL (gT X 1) 1 fa1) :: (ub, oB 32 [.ref wb, .int (zI ib1), .int (zI 0)]) :: (wb, aL (gT X 1) 1 fb1) :: (tbR X q (ta.length + 1) (tb.length + 1) g ++ Z)) s H locs := hG
      refine g_topz (y := bI (alk ta tb i j)) alk_z ?_
      obtain ⟨fu, rfl⟩ : ∃ z, fu = z + 1 := ⟨fu - 1, by omega⟩
      refine g_eq (tgt := 55) hx hb dX15_pair_37 (by decide) (by have := bI_R (alk ta tb i j); omega) (fun k5 => ?_) (fun k5 => ?_)
      · have hal : ¬ alk ta tb i j = true := fun q => by rw [q] at k5; cases k5
        have hR4 := @lc_R (alk ta tb) ta.length tb.length (i + 1) j ⟨by omega, by omega⟩
        have hR5 := @lc_R (alk ta tb) ta.length tb.length i (j + 1) ⟨by omega, by omega⟩
        refine lv_aload_n hx hb dX15_pair_55 rfl (lv_at hl 1 rfl) ?_
        refine lv_iload_n hx hb dX15_pair_56 rfl (lv_at hl 2 rfl) ?_
        refine lv_iconst (v := zI 1) hx hb dX15_pair_57 (by decide +kernel) ?_
        refine g_iadd hx hb dX15_pair_58 ?_
        refine g_aald hx hb hG 11 rfl rfl (hG.at 0 rfl) (i + 1) ⟨rfl, by omega, by omega⟩ (v := .ref (q + 1 + (i + 1))) (by show va_rf (if (i + 1) < ta.length + 1 then some (q + 1 + (i + 1)) else none) = _; rw [if_pos (by omega)]; rfl) dX15_pair_59 ?_
        refine lv_iload_n hx hb dX15_pair_60 rfl (lv_at hl 3 rfl) ?_
        refine g_iald hx hb hG (hG.at ((i + 1) + 7) (tbR_at7 (by omega))) j ⟨by omega, by omega, by omega⟩ (v := zI ((lc (alk ta tb) ta.length tb.length (i + 1) j : Nat) : Int)) (hg (i + 1) (by omega) j (by omega)) dX15_pair_61 ?_
        refine lv_aload_n hx hb dX15_pair_62 rfl (lv_at hl 1 rfl) ?_
        refine lv_iload_n hx hb dX15_pair_63 rfl (lv_at hl 2 rfl) ?_
        refine g_aald hx hb hG 11 rfl rfl (hG.at 0 rfl) i ⟨rfl, by omega, by omega⟩ (v := .ref (q + 1 + i)) (by show va_rf (if i < ta.length + 1 then some (q + 1 + i) else none) = _; rw [if_pos (by omega)]; rfl) dX15_pair_64 ?_
        refine lv_iload_n hx hb dX15_pair_65 rfl (lv_at hl 3 rfl) ?_
        refine lv_iconst (v := zI 1) hx hb dX15_pair_66 (by decide +kernel) ?_
        refine g_iadd hx hb dX15_pair_67 ?_
        refine g_iald hx hb hG (hG.at (i + 7) (tbR_at7 (by omega))) (j + 1) ⟨by omega, by omega, by omega⟩ (v := zI ((lc (alk ta tb) ta.length tb.length i (j + 1) : Nat) : Int)) (hg i (by omega) (j + 1) (by omega)) dX15_pair_68 ?_
        refine g_clt (tgt := 78) hx hb dX15_pair_69 (by decide) (by omega) (fun k6 => ?_) (fun k6 => ?_)
        · refine lv_iinc (v := zI ((j : Int) + 1 : Int)) (lv' := [(3, .int (zI ((j : Int) + 1 : Int))), (0, .ref mt), (1, .ref q), (2, .int (zI (i : Int)))]) hx hb dX15_pair_78 hl (k := 3) rfl ((zI_add _ _).trans (congrArg zI (by omega))) (by decide) rfl (fun ls hl => ?_)
          refine lv_goto (tgt := 4) hx hb dX15_pair_81 (by decide) ?_
          have hl : lv_has ls 4 [(3, .int (zI ((j + 1 : Nat) : Int))), (0, .ref mt), (1, .ref q), (2, .int (zI (i : Int)))] := by exact hl
          exact ihP fu (by omega) H locs ls ⟨fu, i, (j + 1), st1, f1, ia1, ib1, fa1, fb1, xa1, xb1, ⟨by omega, by omega, by omega, rfl, by rw [hpr, prF_rt (by omega) (by omega) hal (by omega)], hS1, hba1, hbb1⟩, hG, (lv_sub hl [1, 2, 3, 0] rfl)⟩
        · refine lv_iinc (v := zI ((i : Int) + 1 : Int)) (lv' := [(2, .int (zI ((i : Int) + 1 : Int))), (0, .ref mt), (1, .ref q), (3, .int (zI (j : Int)))]) hx hb dX15_pair_72 hl (k := 2) rfl ((zI_add _ _).trans (congrArg zI (by omega))) (by decide) rfl (fun ls hl => ?_)
          refine lv_goto (tgt := 4) hx hb dX15_pair_75 (by decide) ?_
          have hl : lv_has ls 4 [(2, .int (zI ((i + 1 : Nat) : Int))), (0, .ref mt), (1, .ref q), (3, .int (zI (j : Int)))] := by exact hl
          exact ihP fu (by omega) H locs ls ⟨fu, (i + 1), j, st1, f1, ia1, ib1, fa1, fb1, xa1, xb1, ⟨by omega, by omega, by omega, rfl, by rw [hpr, prF_dn (by omega) (by omega) hal (by omega)], hS1, hba1, hbb1⟩, hG, (lv_sub hl [1, 2, 0, 3] rfl)⟩
      · have hal : alk ta tb i j = true := by cases hq : alk ta tb i j with | true => rfl | false => (rw [hq] at k5; exact absurd rfl k5)
        refine lv_aload_n hx hb dX15_pair_40 rfl (lv_at hl 0 rfl) ?_
        refine lv_iload_n hx hb dX15_pair_41 rfl (lv_at hl 2 rfl) ?_
        refine lv_iinc (v := zI ((i : Int) + 1 : Int)) (lv' := [(2, .int (zI ((i : Int) + 1 : Int))), (0, .ref mt), (1, .ref q), (3, .int (zI (j : Int)))]) hx hb dX15_pair_42 hl (k := 2) rfl ((zI_add _ _).trans (congrArg zI (by omega))) (by decide) rfl (fun ls hl => ?_)
        refine lv_iload_n hx hb dX15_pair_45 rfl (lv_at hl 3 rfl) ?_
        refine lv_iinc (v := zI ((j : Int) + 1 : Int)) (lv' := [(3, .int (zI ((j : Int) + 1 : Int))), (2, .int (zI ((i : Int) + 1 : Int))), (0, .ref mt), (1, .ref q)]) hx hb dX15_pair_46 hl (k := 3) rfl ((zI_add _ _).trans (congrArg zI (by omega))) (by decide) rfl (fun ls hl => ?_)
        have hG : gW X F V ((wb, aL (gT X 1) 1 fb1) :: (q, aR (gT X 11) (ta.length + 1) (fun z => if z < ta.length + 1 then some (q + 1 + z) else none)) :: (mt, oB 13 [.int (zI (r : Int)), .int (zI (tb.length : Int)), .ref pl, .int (zI z3), .int (zI z4), .ref a, .ref b, .ref ua, .ref ub]) :: (pl, aI (gT X 0) ta.length f1) :: (ua, oB 32 [.ref wa, .int (zI ia1), .int (zI 0)]) :: (wa, aL (gT X 1) 1 fa1) :: (ub, oB 32 [.ref wb, .int (zI ib1), .int (zI 0)]) :: (tbR X q (ta.length + 1) (tb.length + 1) g ++ Z)) s _ _ := hG.pull 6 rfl rfl
        have hG : gW X F V ((ub, oB 32 [.ref wb, .int (zI ib1), .int (zI 0)]) :: (wb, aL (gT X 1) 1 fb1) :: (q, aR (gT X 11) (ta.length + 1) (fun z => if z < ta.length + 1 then some (q + 1 + z) else none)) :: (mt, oB 13 [.int (zI (r : Int)), .int (zI (tb.length : Int)), .ref pl, .int (zI z3), .int (zI z4), .ref a, .ref b, .ref ua, .ref ub]) :: (pl, aI (gT X 0) ta.length f1) :: (ua, oB 32 [.ref wa, .int (zI ia1), .int (zI 0)]) :: (wa, aL (gT X 1) 1 fa1) :: (tbR X q (ta.length + 1) (tb.length + 1) g ++ Z)) s _ _ := hG.pull 6 rfl rfl
        have hG : gW X F V ((wa, aL (gT X 1) 1 fa1) :: (ub, oB 32 [.ref wb, .int (zI ib1), .int (zI 0)]) :: (wb, aL (gT X 1) 1 fb1) :: (q, aR (gT X 11) (ta.length + 1) (fun z => if z < ta.length + 1 then some (q + 1 + z) else none)) :: (mt, oB 13 [.int (zI (r : Int)), .int (zI (tb.length : Int)), .ref pl, .int (zI z3), .int (zI z4), .ref a, .ref b, .ref ua, .ref ub]) :: (pl, aI (gT X 0) ta.length f1) :: (ua, oB 32 [.ref wa, .int (zI ia1), .int (zI 0)]) :: (tbR X q (ta.length + 1) (tb.length + 1) g ++ Z)) s _ _ := hG.pull 6 rfl rfl
        have hG : gW X F V ((ua, oB 32 [.ref wa, .int (zI ia1), .int (zI 0)]) :: (wa, aL (gT X 1) 1 fa1) :: (ub, oB 32 [.ref wb, .int (zI ib1), .int (zI 0)]) :: (wb, aL (gT X 1) 1 fb1) :: (q, aR (gT X 11) (ta.length + 1) (fun z => if z < ta.length + 1 then some (q + 1 + z) else none)) :: (mt, oB 13 [.int (zI (r : Int)), .int (zI (tb.length : Int)), .ref pl, .int (zI z3), .int (zI z4), .ref a, .ref b, .ref ua, .ref ub]) :: (pl, aI (gT X 0) ta.length f1) :: (tbR X q (ta.length + 1) (tb.length + 1) g ++ Z)) s _ _ := hG.pull 6 rfl rfl
        have hG : gW X F V ((pl, aI (gT X 0) ta.length f1) :: (ua, oB 32 [.ref wa, .int (zI ia1), .int (zI 0)]) :: (wa, aL (gT X 1) 1 fa1) :: (ub, oB 32 [.ref wb, .int (zI ib1), .int (zI 0)]) :: (wb, aL (gT X 1) 1 fb1) :: (q, aR (gT X 11) (ta.length + 1) (fun z => if z < ta.length + 1 then some (q + 1 + z) else none)) :: (mt, oB 13 [.int (zI (r : Int)), .int (zI (tb.length : Int)), .ref pl, .int (zI z3), .int (zI z4), .ref a, .ref b, .ref ua, .ref ub]) :: (tbR X q (ta.length + 1) (tb.length + 1) g ++ Z)) s _ _ := hG.pull 6 rfl rfl
        have hG : gW X F V ((mt, oB 13 [.int (zI (r : Int)), .int (zI (tb.length : Int)), .ref pl, .int (zI z3), .int (zI z4), .ref a, .ref b, .ref ua, .ref ub]) :: (pl, aI (gT X 0) ta.length f1) :: (ua, oB 32 [.ref wa, .int (zI ia1), .int (zI 0)]) :: (wa, aL (gT X 1) 1 fa1) :: (ub, oB 32 [.ref wb, .int (zI ib1), .int (zI 0)]) :: (wb, aL (gT X 1) 1 fb1) :: (q, aR (gT X 11) (ta.length + 1) (fun z => if z < ta.length + 1 then some (q + 1 + z) else none)) :: (tbR X q (ta.length + 1) (tb.length + 1) g ++ Z)) s _ _ := hG.pull 6 rfl rfl
        refine g_cv (va_runV (As := [.int (zI (i : Int)), .int (zI (j : Int))]) (rest := []) ⟨hx, hb, hml, hown, hts⟩ (metX15_use (i := i) (j := j) hS1 hba1 hbb1 ⟨by omega, by omega⟩) (cwV 2 hts (lw_V q1831 q1833 qs23 q141 q1834) rfl rfl rfl (by decide +kernel) ⟨Nat.le_of_ble_eq_true rfl, Nat.le_of_ble_eq_true rfl⟩) (g_preV hG (g_recv hG (hG.at 0 rfl) (ci := 13) rfl)) rfl rfl hl.1 rfl (lv_room (Nat.le_of_ble_eq_true rfl)) dX15_pair_49 ⟨Nat.le_of_ble_eq_true rfl, Nat.le_of_ble_eq_true rfl⟩) hG (fun F_7 V_8 ws_ H locs hp hG => ?_)
        obtain ⟨rfl, rfl, f9, ia9, ib9, fa9, fb9, xa9, xb9, hS9, hba9, hbb9, rfl⟩ := hp
        have hG : gW X F V ((mt, oB 13 [.int (zI (r : Int)), .int (zI (tb.length : Int)), .ref pl, .int (zI z3), .int (zI z4), .ref a, .ref b, .ref ua, .ref ub]) :: (pl, aI (gT X 0) ta.length f9) :: (ua, oB 32 [.ref wa, .int (zI ia9), .int (zI 0)]) :: (wa, aL (gT X 1) 1 fa9) :: (ub, oB 32 [.ref wb, .int (zI ib9), .int (zI 0)]) :: (wb, aL (gT X 1) 1 fb9) :: (q, aR (gT X 11) (ta.length + 1) (fun z => if z < ta.length + 1 then some (q + 1 + z) else none)) :: (tbR X q (ta.length + 1) (tb.length + 1) g ++ Z)) s H locs := hG
        have hG : gW X F V ((wb, aL (gT X 1) 1 fb9) :: (mt, oB 13 [.int (zI (r : Int)), .int (zI (tb.length : Int)), .ref pl, .int (zI z3), .int (zI z4), .ref a, .ref b, .ref ua, .ref ub]) :: (pl, aI (gT X 0) ta.length f9) :: (ua, oB 32 [.ref wa, .int (zI ia9), .int (zI 0)]) :: (wa, aL (gT X 1) 1 fa9) :: (ub, oB 32 [.ref wb, .int (zI ib9), .int (zI 0)]) :: (q, aR (gT X 11) (ta.length + 1) (fun z => if z < ta.length + 1 then some (q + 1 + z) else none)) :: (tbR X q (ta.length + 1) (tb.length + 1) g ++ Z)) s _ _ := hG.pull 5 rfl rfl
        have hG : gW X F V ((ub, oB 32 [.ref wb, .int (zI ib9), .int (zI 0)]) :: (wb, aL (gT X 1) 1 fb9) :: (mt, oB 13 [.int (zI (r : Int)), .int (zI (tb.length : Int)), .ref pl, .int (zI z3), .int (zI z4), .ref a, .ref b, .ref ua, .ref ub]) :: (pl, aI (gT X 0) ta.length f9) :: (ua, oB 32 [.ref wa, .int (zI ia9), .int (zI 0)]) :: (wa, aL (gT X 1) 1 fa9) :: (q, aR (gT X 11) (ta.length + 1) (fun z => if z < ta.length + 1 then some (q + 1 + z) else none)) :: (tbR X q (ta.length + 1) (tb.length + 1) g ++ Z)) s _ _ := hG.pull 5 rfl rfl
        have hG : gW X F V ((wa, aL (gT X 1) 1 fa9) :: (ub, oB 32 [.ref wb, .int (zI ib9), .int (zI 0)]) :: (wb, aL (gT X 1) 1 fb9) :: (mt, oB 13 [.int (zI (r : Int)), .int (zI (tb.length : Int)), .ref pl, .int (zI z3), .int (zI z4), .ref a, .ref b, .ref ua, .ref ub]) :: (pl, aI (gT X 0) ta.length f9) :: (ua, oB 32 [.ref wa, .int (zI ia9), .int (zI 0)]) :: (q, aR (gT X 11) (ta.length + 1) (fun z => if z < ta.length + 1 then some (q + 1 + z) else none)) :: (tbR X q (ta.length + 1) (tb.length + 1) g ++ Z)) s _ _ := hG.pull 5 rfl rfl
        have hG : gW X F V ((ua, oB 32 [.ref wa, .int (zI ia9), .int (zI 0)]) :: (wa, aL (gT X 1) 1 fa9) :: (ub, oB 32 [.ref wb, .int (zI ib9), .int (zI 0)]) :: (wb, aL (gT X 1) 1 fb9) :: (mt, oB 13 [.int (zI (r : Int)), .int (zI (tb.length : Int)), .ref pl, .int (zI z3), .int (zI z4), .ref a, .ref b, .ref ua, .ref ub]) :: (pl, aI (gT X 0) ta.length f9) :: (q, aR (gT X 11) (ta.length + 1) (fun z => if z < ta.length + 1 then some (q + 1 + z) else none)) :: (tbR X q (ta.length + 1) (tb.length + 1) g ++ Z)) s _ _ := hG.pull 5 rfl rfl
        have hG : gW X F V ((pl, aI (gT X 0) ta.length f9) :: (ua, oB 32 [.ref wa, .int (zI ia9), .int (zI 0)]) :: (wa, aL (gT X 1) 1 fa9) :: (ub, oB 32 [.ref wb, .int (zI ib9), .int (zI 0)]) :: (wb, aL (gT X 1) 1 fb9) :: (mt, oB 13 [.int (zI (r : Int)), .int (zI (tb.length : Int)), .ref pl, .int (zI z3), .int (zI z4), .ref a, .ref b, .ref ua, .ref ub]) :: (q, aR (gT X 11) (ta.length + 1) (fun z => if z < ta.length + 1 then some (q + 1 + z) else none)) :: (tbR X q (ta.length + 1) (tb.length + 1) g ++ Z)) s _ _ := hG.pull 5 rfl rfl
        have hG : gW X F V ((mt, oB 13 [.int (zI (r : Int)), .int (zI (tb.length : Int)), .ref pl, .int (zI z3), .int (zI z4), .ref a, .ref b, .ref ua, .ref ub]) :: (pl, aI (gT X 0) ta.length f9) :: (ua, oB 32 [.ref wa, .int (zI ia9), .int (zI 0)]) :: (wa, aL (gT X 1) 1 fa9) :: (ub, oB 32 [.ref wb, .int (zI ib9), .int (zI 0)]) :: (wb, aL (gT X 1) 1 fb9) :: (q, aR (gT X 11) (ta.length + 1) (fun z => if z < ta.length + 1 then some (q + 1 + z) else none)) :: (tbR X q (ta.length + 1) (tb.length + 1) g ++ Z)) s _ _ := hG.pull 5 rfl rfl
        have hG : gW X F V ((q, aR (gT X 11) (ta.length + 1) (fun z => if z < ta.length + 1 then some (q + 1 + z) else none)) :: (mt, oB 13 [.int (zI (r : Int)), .int (zI (tb.length : Int)), .ref pl, .int (zI z3), .int (zI z4), .ref a, .ref b, .ref ua, .ref ub]) :: (pl, aI (gT X 0) ta.length f9) :: (ua, oB 32 [.ref wa, .int (zI ia9), .int (zI 0)]) :: (wa, aL (gT X 1) 1 fa9) :: (ub, oB 32 [.ref wb, .int (zI ib9), .int (zI 0)]) :: (wb, aL (gT X 1) 1 fb9) :: (tbR X q (ta.length + 1) (tb.length + 1) g ++ Z)) s _ _ := hG.pull 6 rfl rfl
        refine lv_goto (tgt := 4) hx hb dX15_pair_52 (by decide) ?_
        have hl : lv_has ls 4 [(3, .int (zI ((j + 1 : Nat) : Int))), (2, .int (zI ((i + 1 : Nat) : Int))), (0, .ref mt), (1, .ref q)] := by exact hl
        exact ihP fu (by omega) H locs ls ⟨fu, (i + 1), (j + 1), _, f9, ia9, ib9, fa9, fb9, xa9, xb9, ⟨by omega, by omega, by omega, rfl, by rw [hpr, prF_hit (by omega) (by omega) hal], hS9, hba9, hbb9⟩, hG, (lv_sub hl [2, 3, 1, 0] rfl)⟩

