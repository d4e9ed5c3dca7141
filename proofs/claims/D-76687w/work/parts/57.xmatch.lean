set_option maxRecDepth 100000
theorem gD_some {t : Tx} {i : Nat} (h : i < t.length) : t[i]? = some (t.getD i []) := by rw [List.getD_eq_getElem?_getD, List.getElem?_eq_getElem h]; rfl
theorem alk_z {ta tb : Tx} {i j : Nat} : (if ta.getD i [] = tb.getD j [] then (1 : Int) else 0) = bI (alk ta tb i j) := by
  unfold alk
  by_cases h : ta.getD i [] = tb.getD j []
  · rw [if_pos h, decide_eq_true h]; rfl
  · rw [if_neg h, decide_eq_false h]; rfl
theorem isLine.recv {X : gX} {F : gF} {V : gV} {ws : va_W} {s : State} {H : Heap} {locs : List Loc} {a : Nat} {cs : Ln} (h : isLine X F a cs) (hG : gW X F V ws s H locs) : ∃ cell : Cell, H[a]? = some cell ∧ cell.vm.isStatics = false ∧ s.vm.findClass "LineRemarks$Line" = some cell.cls := by
  obtain ⟨b, f, h1, -⟩ := h
  exact g_recv hG (hG.fz h1) (ci := ciLine) rfl
/-- a match on its way: places, the lines in use -/
def mtS (na nb : Nat) (st : PU) (f : Nat → Int32) (xa xb : Nat) : Prop := (∀ i, i < na → f i = zI (oI (st.1 i))) ∧ (∀ i, i < 32 → xa.testBit i = (st.1 i).isSome) ∧ (∀ j, j < 32 → xb.testBit j = st.2 j) ∧ puB st na nb ∧ (∀ j, st.2 j = true → j < nb) ∧ na ≤ 24 ∧ nb ≤ 24
theorem mtS.xa {na nb : Nat} {st : PU} {f : Nat → Int32} {xa xb : Nat} (h : mtS na nb st f xa xb) (hx : xa < 4294967296) : xa < 2147483648 := by
  have h1 := h.2.1 31 (by decide)
  have h2 : st.1 31 = none := by
    cases hq : st.1 31 with
    | none => rfl
    | some y => have := (h.2.2.2.1 31 y hq).1; have := h.2.2.2.2.2.1; omega
  rw [h2] at h1
  have h1 : xa.testBit 31 = false := h1
  rw [Nat.testBit_eq_decide_div_mod_eq] at h1
  have := of_decide_eq_false h1
  omega
theorem mtS.xb {na nb : Nat} {st : PU} {f : Nat → Int32} {xa xb : Nat} (h : mtS na nb st f xa xb) (hx : xb < 4294967296) : xb < 2147483648 := by
  have h1 := h.2.2.1 31 (by decide)
  have h2 : st.2 31 = false := by
    cases hq : st.2 31 with
    | false => rfl
    | true => have := h.2.2.2.2.1 31 hq; have := h.2.2.2.2.2.2; omega
  rw [h2] at h1
  rw [Nat.testBit_eq_decide_div_mod_eq] at h1
  have := of_decide_eq_false h1
  omega
theorem mtS.use {na nb i j : Nat} {st : PU} {f : Nat → Int32} {xa xb : Nat} (h : mtS na nb st f xa xb) (hi : i < na) (hj : j < nb) : mtS na nb (puUse st i j) (upd f i (zI (j : Int))) (xa ||| 2 ^ i) (xb ||| 2 ^ j) := by
  obtain ⟨h1, h2, h3, h4, h5, h6, h7⟩ := h
  refine ⟨fun x hx => ?_, fun x hx => ?_, fun x hx => ?_, h4.use hi hj, fun x hx => ?_, h6, h7⟩
  · show upd f i (zI (j : Int)) x = zI (oI (va_up st.1 i (some j) x))
    by_cases hxi : x = i
    · subst hxi; rw [va_up_self]; unfold upd; rw [if_pos rfl]; rfl
    · rw [va_up_ne _ _ hxi]; unfold upd; rw [if_neg hxi]; exact h1 x hx
  · show _ = (va_up st.1 i (some j) x).isSome
    rw [tb_or, h2 x hx]
    by_cases hxi : x = i
    · subst hxi; rw [va_up_self, decide_eq_true rfl, Bool.or_true]; rfl
    · rw [va_up_ne _ _ hxi, decide_eq_false (Ne.symm hxi), Bool.or_false]
  · show _ = va_up st.2 j true x
    rw [tb_or, h3 x hx]
    by_cases hxj : x = j
    · subst hxj; rw [va_up_self, decide_eq_true rfl, Bool.or_true]
    · rw [va_up_ne _ _ hxj, decide_eq_false (Ne.symm hxj), Bool.or_false]
  · have hx : va_up st.2 j true x = true := hx
    by_cases hxj : x = j
    · omega
    · rw [va_up_ne _ _ hxj] at hx; exact h5 x hx
theorem isSome_f {o : Option Nat} (h : bI o.isSome = 0) : o = none := by
  cases o with
  | none => rfl
  | some x => cases h
theorem isSome_t {o : Option Nat} (h : bI o.isSome ≠ 0) : o ≠ none := by rintro rfl; exact h rfl
set_option maxHeartbeats 4000000 in
theorem metX15_runAt {l : Launch} {X : gX} {F : gF} {V : gV} {Z : va_W} {i0 j0 mt pl ua wa ub wb a b xa xb r : Nat} {z3 z4 iua iub : Int} {ta tb : Tx} {f : Nat → Int32} {fa fb : Nat → Int64} {st : PU} (hta : isText X F a ta) (htb : isText X F b tb) (hS : mtS ta.length tb.length st f xa xb) (hba : bsR xa iua fa) (hbb : bsR xb iub fb) (hij : i0 ≤ ta.length ∧ j0 ≤ tb.length) : Met l yX15_runAt (ws_ yX15_runAt cX15_runAt 4 (some FieldType.int)) ({ frames := 2, cells := 0, slots := 0, locals := 42 }) (gP X F V ((mt, oB 13 [.int (zI (r : Int)), .int (zI (tb.length : Int)), .ref pl, .int (zI z3), .int (zI z4), .ref a, .ref b, .ref ua, .ref ub]) :: (pl, aI (gT X 0) ta.length f) :: (ua, oB 32 [.ref wa, .int (zI iua), .int (zI 0)]) :: (wa, aL (gT X 1) 1 fa) :: (ub, oB 32 [.ref wb, .int (zI iub), .int (zI 0)]) :: (wb, aL (gT X 1) 1 fb) :: Z) [.ref mt, .int (zI (i0 : Int)), .int (zI (j0 : Int))]) (gQi X (fun u G U ws => u = zI (rn (alk ta tb) ta.length tb.length st i0 j0 : Nat) ∧ F = G ∧ V = U ∧ ((mt, oB 13 [.int (zI (r : Int)), .int (zI (tb.length : Int)), .ref pl, .int (zI z3), .int (zI z4), .ref a, .ref b, .ref ua, .ref ub]) :: (pl, aI (gT X 0) ta.length f) :: (ua, oB 32 [.ref wa, .int (zI iua), .int (zI 0)]) :: (wa, aL (gT X 1) 1 fa) :: (ub, oB 32 [.ref wb, .int (zI iub), .int (zI 0)]) :: (wb, aL (gT X 1) 1 fb) :: Z) = ws)) 0 0 (gA X) := by
  refine Met.g (by decide) (Nat.le_of_ble_eq_true rfl) ?_
  intro p e s m below meth c ls hx hb hr hts hown hlocks hml hin hG hl
  have hl : lv_has ls 4 [(0, .ref mt), (1, .int (zI (i0 : Int))), (2, .int (zI (j0 : Int)))] := hl
  obtain ⟨ga, hga1, hga2, hga3⟩ := hta
  have hgal := hga2
  obtain ⟨gb, hgb1, hgb2, hgb3⟩ := htb
  have hgbl := hgb2
  refine lv_iconst (v := zI 0) hx hb dX15_runAt_0 (by decide +kernel) ?_
  refine lv_istore_n (lv' := [(3, .int (zI 0)), (0, .ref mt), (1, .int (zI (i0 : Int))), (2, .int (zI (j0 : Int)))]) hx hb dX15_runAt_1 rfl hl (by decide) rfl (fun ls hl => ?_)
  refine g_loop (fun mz H locs ls => ∃ (k : Nat), (i0 + k ≤ ta.length ∧ mz = ta.length - (i0 + k) ∧ rn (alk ta tb) ta.length tb.length st i0 j0 = k + rn (alk ta tb) ta.length tb.length st (i0 + k) (j0 + k)) ∧ gW X F V ((mt, oB 13 [.int (zI (r : Int)), .int (zI (tb.length : Int)), .ref pl, .int (zI z3), .int (zI z4), .ref a, .ref b, .ref ua, .ref ub]) :: (pl, aI (gT X 0) ta.length f) :: (ua, oB 32 [.ref wa, .int (zI iua), .int (zI 0)]) :: (wa, aL (gT X 1) 1 fa) :: (ub, oB 32 [.ref wb, .int (zI iub), .int (zI 0)]) :: (wb, aL (gT X 1) 1 fb) :: Z) s H locs ∧ lv_has ls 4 [(0, .ref mt), (1, .int (zI (i0 : Int))), (2, .int (zI (j0 : Int))), (3, .int (zI (k : Int)))]) (ta.length - (i0 + 0)) ⟨0, ⟨by omega, rfl, (Nat.zero_add _).symm⟩, hG, (lv_sub hl [1, 2, 3, 0] rfl)⟩ (fun mz ihA H locs ls hI => ?_)
  obtain ⟨k, ⟨hk, hmz, hrn⟩, hG, hl⟩ := hI
  refine lv_iload_n hx hb dX15_runAt_2 rfl (lv_at hl 1 rfl) ?_
  refine lv_iload_n hx hb dX15_runAt_3 rfl (lv_at hl 3 rfl) ?_
  refine g_iadd hx hb dX15_runAt_4 ?_
  refine lv_aload_n hx hb dX15_runAt_5 rfl (lv_at hl 0 rfl) ?_
  refine g_get (ci := 13) hx hb hts in_X15 hown hG (hG.at 0 rfl) rfl 5 (Nat.le_of_ble_eq_true rfl) (hts _ q1918) (fun _ h9 => h9) rfl dX15_runAt_6 ?_
  refine g_alen hx hb hG 6 rfl (hG.fz hga1) dX15_runAt_9 ?_
  refine g_cge (tgt := 78) hx hb dX15_runAt_10 (by decide) (by omega) (fun h1 => ?_) (fun h1 => ?_)
  · refine lv_iload_n hx hb dX15_runAt_78 rfl (lv_at hl 3 rfl) ?_
    exact g_iret hx hb hr hlocks hG (⟨by rw [hrn, rn_stop (by omega)]; exact congrArg zI (by omega), rfl, rfl, rfl⟩) ⟨Nat.le_of_ble_eq_true rfl, Nat.le_of_ble_eq_true rfl⟩ dX15_runAt_79
  · refine lv_iload_n hx hb dX15_runAt_13 rfl (lv_at hl 2 rfl) ?_
    refine lv_iload_n hx hb dX15_runAt_14 rfl (lv_at hl 3 rfl) ?_
    refine g_iadd hx hb dX15_runAt_15 ?_
    refine lv_aload_n hx hb dX15_runAt_16 rfl (lv_at hl 0 rfl) ?_
    refine g_get (ci := 13) hx hb hts in_X15 hown hG (hG.at 0 rfl) rfl 6 (Nat.le_of_ble_eq_true rfl) (hts _ q1919) (fun _ h9 => h9) rfl dX15_runAt_17 ?_
    refine g_alen hx hb hG 6 rfl (hG.fz hgb1) dX15_runAt_20 ?_
    refine g_cge (tgt := 78) hx hb dX15_runAt_21 (by decide) (by omega) (fun h2 => ?_) (fun h2 => ?_)
    · refine lv_iload_n hx hb dX15_runAt_78 rfl (lv_at hl 3 rfl) ?_
      exact g_iret hx hb hr hlocks hG (⟨by rw [hrn, rn_stop (by omega)]; exact congrArg zI (by omega), rfl, rfl, rfl⟩) ⟨Nat.le_of_ble_eq_true rfl, Nat.le_of_ble_eq_true rfl⟩ dX15_runAt_79
    · refine lv_aload_n hx hb dX15_runAt_24 rfl (lv_at hl 0 rfl) ?_
      refine g_get (ci := 13) hx hb hts in_X15 hown hG (hG.at 0 rfl) rfl 7 (Nat.le_of_ble_eq_true rfl) (hts _ q1920) (fun _ h9 => h9) rfl dX15_runAt_25 ?_
      refine lv_iload_n hx hb dX15_runAt_28 rfl (lv_at hl 1 rfl) ?_
      refine lv_iload_n hx hb dX15_runAt_29 rfl (lv_at hl 3 rfl) ?_
      refine g_iadd hx hb dX15_runAt_30 ?_
      refine g_topz (y := (((i0 + k) : Nat) : Int)) (by omega) ?_
      have hG : gW X F V ((wa, aL (gT X 1) 1 fa) :: (mt, oB 13 [.int (zI (r : Int)), .int (zI (tb.length : Int)), .ref pl, .int (zI z3), .int (zI z4), .ref a, .ref b, .ref ua, .ref ub]) :: (pl, aI (gT X 0) ta.length f) :: (ua, oB 32 [.ref wa, .int (zI iua), .int (zI 0)]) :: (ub, oB 32 [.ref wb, .int (zI iub), .int (zI 0)]) :: (wb, aL (gT X 1) 1 fb) :: Z) s _ _ := hG.pull 3 rfl rfl
      have hG : gW X F V ((ua, oB 32 [.ref wa, .int (zI iua), .int (zI 0)]) :: (wa, aL (gT X 1) 1 fa) :: (mt, oB 13 [.int (zI (r : Int)), .int (zI (tb.length : Int)), .ref pl, .int (zI z3), .int (zI z4), .ref a, .ref b, .ref ua, .ref ub]) :: (pl, aI (gT X 0) ta.length f) :: (ub, oB 32 [.ref wb, .int (zI iub), .int (zI 0)]) :: (wb, aL (gT X 1) 1 fb) :: Z) s _ _ := hG.pull 3 rfl rfl
      refine g_ci (va_runV (As := [.int (zI (((i0 + k) : Nat) : Int))]) (rest := []) ⟨hx, hb, hml, hown, hts⟩ (metJ37_get (x := xa) (i := (i0 + k)) hba (by omega)) (cwV 1 hts (lw_V q1901 q1902 q1903 q142 q1904) rfl rfl rfl (by decide +kernel) ⟨Nat.le_of_ble_eq_true rfl, Nat.le_of_ble_eq_true rfl⟩) (g_preV hG (g_recv hG (hG.at 0 rfl) (ci := 32) rfl)) rfl rfl hl.1 rfl (lv_room (Nat.le_of_ble_eq_true rfl)) dX15_runAt_31 ⟨Nat.le_of_ble_eq_true rfl, Nat.le_of_ble_eq_true rfl⟩) hG (fun r_1 F_2 V_3 ws_ H locs hp hG => ?_)
      obtain ⟨rfl, rfl, rfl, rfl⟩ := hp
      have hG : gW X F V ((ua, oB 32 [.ref wa, .int (zI iua), .int (zI 0)]) :: (wa, aL (gT X 1) 1 fa) :: (mt, oB 13 [.int (zI (r : Int)), .int (zI (tb.length : Int)), .ref pl, .int (zI z3), .int (zI z4), .ref a, .ref b, .ref ua, .ref ub]) :: (pl, aI (gT X 0) ta.length f) :: (ub, oB 32 [.ref wb, .int (zI iub), .int (zI 0)]) :: (wb, aL (gT X 1) 1 fb) :: Z) s H locs := hG
      refine g_topz (y := (bI (st.1 (i0 + k)).isSome)) (congrArg bI (hS.2.1 _ (by omega))) ?_
      refine g_ne (tgt := 78) hx hb dX15_runAt_34 (by decide) (by have := bI_R (st.1 (i0 + k)).isSome; omega) (fun h3 => ?_) (fun h3 => ?_)
      · refine lv_iload_n hx hb dX15_runAt_78 rfl (lv_at hl 3 rfl) ?_
        have hG : gW X F V ((wb, aL (gT X 1) 1 fb) :: (ua, oB 32 [.ref wa, .int (zI iua), .int (zI 0)]) :: (wa, aL (gT X 1) 1 fa) :: (mt, oB 13 [.int (zI (r : Int)), .int (zI (tb.length : Int)), .ref pl, .int (zI z3), .int (zI z4), .ref a, .ref b, .ref ua, .ref ub]) :: (pl, aI (gT X 0) ta.length f) :: (ub, oB 32 [.ref wb, .int (zI iub), .int (zI 0)]) :: Z) s _ _ := hG.pull 5 rfl rfl
        have hG : gW X F V ((ub, oB 32 [.ref wb, .int (zI iub), .int (zI 0)]) :: (wb, aL (gT X 1) 1 fb) :: (ua, oB 32 [.ref wa, .int (zI iua), .int (zI 0)]) :: (wa, aL (gT X 1) 1 fa) :: (mt, oB 13 [.int (zI (r : Int)), .int (zI (tb.length : Int)), .ref pl, .int (zI z3), .int (zI z4), .ref a, .ref b, .ref ua, .ref ub]) :: (pl, aI (gT X 0) ta.length f) :: Z) s _ _ := hG.pull 5 rfl rfl
        have hG : gW X F V ((wa, aL (gT X 1) 1 fa) :: (ub, oB 32 [.ref wb, .int (zI iub), .int (zI 0)]) :: (wb, aL (gT X 1) 1 fb) :: (ua, oB 32 [.ref wa, .int (zI iua), .int (zI 0)]) :: (mt, oB 13 [.int (zI (r : Int)), .int (zI (tb.length : Int)), .ref pl, .int (zI z3), .int (zI z4), .ref a, .ref b, .ref ua, .ref ub]) :: (pl, aI (gT X 0) ta.length f) :: Z) s _ _ := hG.pull 3 rfl rfl
        have hG : gW X F V ((ua, oB 32 [.ref wa, .int (zI iua), .int (zI 0)]) :: (wa, aL (gT X 1) 1 fa) :: (ub, oB 32 [.ref wb, .int (zI iub), .int (zI 0)]) :: (wb, aL (gT X 1) 1 fb) :: (mt, oB 13 [.int (zI (r : Int)), .int (zI (tb.length : Int)), .ref pl, .int (zI z3), .int (zI z4), .ref a, .ref b, .ref ua, .ref ub]) :: (pl, aI (gT X 0) ta.length f) :: Z) s _ _ := hG.pull 3 rfl rfl
        have hG : gW X F V ((pl, aI (gT X 0) ta.length f) :: (ua, oB 32 [.ref wa, .int (zI iua), .int (zI 0)]) :: (wa, aL (gT X 1) 1 fa) :: (ub, oB 32 [.ref wb, .int (zI iub), .int (zI 0)]) :: (wb, aL (gT X 1) 1 fb) :: (mt, oB 13 [.int (zI (r : Int)), .int (zI (tb.length : Int)), .ref pl, .int (zI z3), .int (zI z4), .ref a, .ref b, .ref ua, .ref ub]) :: Z) s _ _ := hG.pull 5 rfl rfl
        have hG : gW X F V ((mt, oB 13 [.int (zI (r : Int)), .int (zI (tb.length : Int)), .ref pl, .int (zI z3), .int (zI z4), .ref a, .ref b, .ref ua, .ref ub]) :: (pl, aI (gT X 0) ta.length f) :: (ua, oB 32 [.ref wa, .int (zI iua), .int (zI 0)]) :: (wa, aL (gT X 1) 1 fa) :: (ub, oB 32 [.ref wb, .int (zI iub), .int (zI 0)]) :: (wb, aL (gT X 1) 1 fb) :: Z) s _ _ := hG.pull 5 rfl rfl
        exact g_iret hx hb hr hlocks hG (⟨by rw [hrn, rn_stop (by rintro ⟨-, -, q, -⟩; rw [q] at h3; exact h3 rfl)]; exact congrArg zI (by omega), rfl, rfl, rfl⟩) ⟨Nat.le_of_ble_eq_true rfl, Nat.le_of_ble_eq_true rfl⟩ dX15_runAt_79
      · refine lv_aload_n hx hb dX15_runAt_37 rfl (lv_at hl 0 rfl) ?_
        refine g_get (ci := 13) hx hb hts in_X15 hown hG (hG.at 2 rfl) rfl 8 (Nat.le_of_ble_eq_true rfl) (hts _ q1921) (fun _ h9 => h9) rfl dX15_runAt_38 ?_
        refine lv_iload_n hx hb dX15_runAt_41 rfl (lv_at hl 2 rfl) ?_
        refine lv_iload_n hx hb dX15_runAt_42 rfl (lv_at hl 3 rfl) ?_
        refine g_iadd hx hb dX15_runAt_43 ?_
        refine g_topz (y := (((j0 + k) : Nat) : Int)) (by omega) ?_
        have hG : gW X F V ((wb, aL (gT X 1) 1 fb) :: (ua, oB 32 [.ref wa, .int (zI iua), .int (zI 0)]) :: (wa, aL (gT X 1) 1 fa) :: (mt, oB 13 [.int (zI (r : Int)), .int (zI (tb.length : Int)), .ref pl, .int (zI z3), .int (zI z4), .ref a, .ref b, .ref ua, .ref ub]) :: (pl, aI (gT X 0) ta.length f) :: (ub, oB 32 [.ref wb, .int (zI iub), .int (zI 0)]) :: Z) s _ _ := hG.pull 5 rfl rfl
        have hG : gW X F V ((ub, oB 32 [.ref wb, .int (zI iub), .int (zI 0)]) :: (wb, aL (gT X 1) 1 fb) :: (ua, oB 32 [.ref wa, .int (zI iua), .int (zI 0)]) :: (wa, aL (gT X 1) 1 fa) :: (mt, oB 13 [.int (zI (r : Int)), .int (zI (tb.length : Int)), .ref pl, .int (zI z3), .int (zI z4), .ref a, .ref b, .ref ua, .ref ub]) :: (pl, aI (gT X 0) ta.length f) :: Z) s _ _ := hG.pull 5 rfl rfl
        refine g_ci (va_runV (As := [.int (zI (((j0 + k) : Nat) : Int))]) (rest := []) ⟨hx, hb, hml, hown, hts⟩ (metJ37_get (x := xb) (i := (j0 + k)) hbb (by omega)) (cwV 1 hts (lw_V q1901 q1902 q1903 q142 q1904) rfl rfl rfl (by decide +kernel) ⟨Nat.le_of_ble_eq_true rfl, Nat.le_of_ble_eq_true rfl⟩) (g_preV hG (g_recv hG (hG.at 0 rfl) (ci := 32) rfl)) rfl rfl hl.1 rfl (lv_room (Nat.le_of_ble_eq_true rfl)) dX15_runAt_44 ⟨Nat.le_of_ble_eq_true rfl, Nat.le_of_ble_eq_true rfl⟩) hG (fun r_4 F_5 V_6 ws_ H locs hp hG => ?_)
        obtain ⟨rfl, rfl, rfl, rfl⟩ := hp
        have hG : gW X F V ((ub, oB 32 [.ref wb, .int (zI iub), .int (zI 0)]) :: (wb, aL (gT X 1) 1 fb) :: (ua, oB 32 [.ref wa, .int (zI iua), .int (zI 0)]) :: (wa, aL (gT X 1) 1 fa) :: (mt, oB 13 [.int (zI (r : Int)), .int (zI (tb.length : Int)), .ref pl, .int (zI z3), .int (zI z4), .ref a, .ref b, .ref ua, .ref ub]) :: (pl, aI (gT X 0) ta.length f) :: Z) s H locs := hG
        refine g_topz (y := (bI (st.2 (j0 + k)))) (congrArg bI (hS.2.2.1 _ (by omega))) ?_
        refine g_ne (tgt := 78) hx hb dX15_runAt_47 (by decide) (by have := bI_R (st.2 (j0 + k)); omega) (fun h4 => ?_) (fun h4 => ?_)
        · refine lv_iload_n hx hb dX15_runAt_78 rfl (lv_at hl 3 rfl) ?_
          have hG : gW X F V ((wb, aL (gT X 1) 1 fb) :: (ub, oB 32 [.ref wb, .int (zI iub), .int (zI 0)]) :: (ua, oB 32 [.ref wa, .int (zI iua), .int (zI 0)]) :: (wa, aL (gT X 1) 1 fa) :: (mt, oB 13 [.int (zI (r : Int)), .int (zI (tb.length : Int)), .ref pl, .int (zI z3), .int (zI z4), .ref a, .ref b, .ref ua, .ref ub]) :: (pl, aI (gT X 0) ta.length f) :: Z) s _ _ := hG.pull 1 rfl rfl
          have hG : gW X F V ((ub, oB 32 [.ref wb, .int (zI iub), .int (zI 0)]) :: (wb, aL (gT X 1) 1 fb) :: (ua, oB 32 [.ref wa, .int (zI iua), .int (zI 0)]) :: (wa, aL (gT X 1) 1 fa) :: (mt, oB 13 [.int (zI (r : Int)), .int (zI (tb.length : Int)), .ref pl, .int (zI z3), .int (zI z4), .ref a, .ref b, .ref ua, .ref ub]) :: (pl, aI (gT X 0) ta.length f) :: Z) s _ _ := hG.pull 1 rfl rfl
          have hG : gW X F V ((wa, aL (gT X 1) 1 fa) :: (ub, oB 32 [.ref wb, .int (zI iub), .int (zI 0)]) :: (wb, aL (gT X 1) 1 fb) :: (ua, oB 32 [.ref wa, .int (zI iua), .int (zI 0)]) :: (mt, oB 13 [.int (zI (r : Int)), .int (zI (tb.length : Int)), .ref pl, .int (zI z3), .int (zI z4), .ref a, .ref b, .ref ua, .ref ub]) :: (pl, aI (gT X 0) ta.length f) :: Z) s _ _ := hG.pull 3 rfl rfl
          have hG : gW X F V ((ua, oB 32 [.ref wa, .int (zI iua), .int (zI 0)]) :: (wa, aL (gT X 1) 1 fa) :: (ub, oB 32 [.ref wb, .int (zI iub), .int (zI 0)]) :: (wb, aL (gT X 1) 1 fb) :: (mt, oB 13 [.int (zI (r : Int)), .int (zI (tb.length : Int)), .ref pl, .int (zI z3), .int (zI z4), .ref a, .ref b, .ref ua, .ref ub]) :: (pl, aI (gT X 0) ta.length f) :: Z) s _ _ := hG.pull 3 rfl rfl
          have hG : gW X F V ((pl, aI (gT X 0) ta.length f) :: (ua, oB 32 [.ref wa, .int (zI iua), .int (zI 0)]) :: (wa, aL (gT X 1) 1 fa) :: (ub, oB 32 [.ref wb, .int (zI iub), .int (zI 0)]) :: (wb, aL (gT X 1) 1 fb) :: (mt, oB 13 [.int (zI (r : Int)), .int (zI (tb.length : Int)), .ref pl, .int (zI z3), .int (zI z4), .ref a, .ref b, .ref ua, .ref ub]) :: Z) s _ _ := hG.pull 5 rfl rfl
          have hG : gW X F V ((mt, oB 13 [.int (zI (r : Int)), .int (zI (tb.length : Int)), .ref pl, .int (zI z3), .int (zI z4), .ref a, .ref b, .ref ua, .ref ub]) :: (pl, aI (gT X 0) ta.length f) :: (ua, oB 32 [.ref wa, .int (zI iua), .int (zI 0)]) :: (wa, aL (gT X 1) 1 fa) :: (ub, oB 32 [.ref wb, .int (zI iub), .int (zI 0)]) :: (wb, aL (gT X 1) 1 fb) :: Z) s _ _ := hG.pull 5 rfl rfl
          exact g_iret hx hb hr hlocks hG (⟨by rw [hrn, rn_stop (by rintro ⟨-, -, -, q, -⟩; rw [q] at h4; exact h4 rfl)]; exact congrArg zI (by omega), rfl, rfl, rfl⟩) ⟨Nat.le_of_ble_eq_true rfl, Nat.le_of_ble_eq_true rfl⟩ dX15_runAt_79
        · have hno : st.1 (i0 + k) = none := isSome_f h3
          have huf : st.2 (j0 + k) = false := bI_0.mp h4
          refine lv_aload_n hx hb dX15_runAt_50 rfl (lv_at hl 0 rfl) ?_
          refine g_get (ci := 13) hx hb hts in_X15 hown hG (hG.at 4 rfl) rfl 5 (Nat.le_of_ble_eq_true rfl) (hts _ q1918) (fun _ h9 => h9) rfl dX15_runAt_51 ?_
          refine lv_iload_n hx hb dX15_runAt_54 rfl (lv_at hl 1 rfl) ?_
          refine lv_iload_n hx hb dX15_runAt_55 rfl (lv_at hl 3 rfl) ?_
          refine g_iadd hx hb dX15_runAt_56 ?_
          obtain ⟨la, hla1, hla2⟩ := hga3 (i0 + k) (ta.getD (i0 + k) []) (gD_some (by omega))
          refine g_aald hx hb hG 6 rfl rfl (hG.fz hga1) (i0 + k) ⟨rfl, by omega, by omega⟩ (v := .ref la) (congrArg va_rf hla1) dX15_runAt_57 ?_
          refine lv_aload_n hx hb dX15_runAt_58 rfl (lv_at hl 0 rfl) ?_
          refine g_get (ci := 13) hx hb hts in_X15 hown hG (hG.at 4 rfl) rfl 6 (Nat.le_of_ble_eq_true rfl) (hts _ q1919) (fun _ h9 => h9) rfl dX15_runAt_59 ?_
          refine lv_iload_n hx hb dX15_runAt_62 rfl (lv_at hl 2 rfl) ?_
          refine lv_iload_n hx hb dX15_runAt_63 rfl (lv_at hl 3 rfl) ?_
          refine g_iadd hx hb dX15_runAt_64 ?_
          obtain ⟨lb, hlb1, hlb2⟩ := hgb3 (j0 + k) (tb.getD (j0 + k) []) (gD_some (by omega))
          refine g_aald hx hb hG 6 rfl rfl (hG.fz hgb1) (j0 + k) ⟨rfl, by omega, by omega⟩ (v := .ref lb) (congrArg va_rf hlb1) dX15_runAt_65 ?_
          refine g_ci (va_runV (As := [.ref lb]) (rest := []) ⟨hx, hb, hml, hown, hts⟩ (metX13_isAlike hla2 hlb2) (cwV 1 hts (lw_V q1822 q1823 q1824 q122 q1825) rfl rfl rfl (by decide +kernel) ⟨Nat.le_of_ble_eq_true rfl, Nat.le_of_ble_eq_true rfl⟩) (g_preV hG (hla2.recv hG)) rfl rfl hl.1 rfl (lv_room (Nat.le_of_ble_eq_true rfl)) dX15_runAt_66 ⟨Nat.le_of_ble_eq_true rfl, Nat.le_of_ble_eq_true rfl⟩) hG (fun r_7 F_8 V_9 ws_ H locs hp hG => ?_)
          obtain ⟨rfl, rfl, rfl, rfl⟩ := hp
          have hG : gW X F V ((ub, oB 32 [.ref wb, .int (zI iub), .int (zI 0)]) :: (wb, aL (gT X 1) 1 fb) :: (ua, oB 32 [.ref wa, .int (zI iua), .int (zI 0)]) :: (wa, aL (gT X 1) 1 fa) :: (mt, oB 13 [.int (zI (r : Int)), .int (zI (tb.length : Int)), .ref pl, .int (zI z3), .int (zI z4), .ref a, .ref b, .ref ua, .ref ub]) :: (pl, aI (gT X 0) ta.length f) :: Z) s H locs := hG
          refine g_topz (y := bI (alk ta tb (i0 + k) (j0 + k))) alk_z ?_
          refine g_eq (tgt := 78) hx hb dX15_runAt_69 (by decide) (by have := bI_R (alk ta tb (i0 + k) (j0 + k)); omega) (fun h5 => ?_) (fun h5 => ?_)
          · refine lv_iload_n hx hb dX15_runAt_78 rfl (lv_at hl 3 rfl) ?_
            have hG : gW X F V ((wb, aL (gT X 1) 1 fb) :: (ub, oB 32 [.ref wb, .int (zI iub), .int (zI 0)]) :: (ua, oB 32 [.ref wa, .int (zI iua), .int (zI 0)]) :: (wa, aL (gT X 1) 1 fa) :: (mt, oB 13 [.int (zI (r : Int)), .int (zI (tb.length : Int)), .ref pl, .int (zI z3), .int (zI z4), .ref a, .ref b, .ref ua, .ref ub]) :: (pl, aI (gT X 0) ta.length f) :: Z) s _ _ := hG.pull 1 rfl rfl
            have hG : gW X F V ((ub, oB 32 [.ref wb, .int (zI iub), .int (zI 0)]) :: (wb, aL (gT X 1) 1 fb) :: (ua, oB 32 [.ref wa, .int (zI iua), .int (zI 0)]) :: (wa, aL (gT X 1) 1 fa) :: (mt, oB 13 [.int (zI (r : Int)), .int (zI (tb.length : Int)), .ref pl, .int (zI z3), .int (zI z4), .ref a, .ref b, .ref ua, .ref ub]) :: (pl, aI (gT X 0) ta.length f) :: Z) s _ _ := hG.pull 1 rfl rfl
            have hG : gW X F V ((wa, aL (gT X 1) 1 fa) :: (ub, oB 32 [.ref wb, .int (zI iub), .int (zI 0)]) :: (wb, aL (gT X 1) 1 fb) :: (ua, oB 32 [.ref wa, .int (zI iua), .int (zI 0)]) :: (mt, oB 13 [.int (zI (r : Int)), .int (zI (tb.length : Int)), .ref pl, .int (zI z3), .int (zI z4), .ref a, .ref b, .ref ua, .ref ub]) :: (pl, aI (gT X 0) ta.length f) :: Z) s _ _ := hG.pull 3 rfl rfl
            have hG : gW X F V ((ua, oB 32 [.ref wa, .int (zI iua), .int (zI 0)]) :: (wa, aL (gT X 1) 1 fa) :: (ub, oB 32 [.ref wb, .int (zI iub), .int (zI 0)]) :: (wb, aL (gT X 1) 1 fb) :: (mt, oB 13 [.int (zI (r : Int)), .int (zI (tb.length : Int)), .ref pl, .int (zI z3), .int (zI z4), .ref a, .ref b, .ref ua, .ref ub]) :: (pl, aI (gT X 0) ta.length f) :: Z) s _ _ := hG.pull 3 rfl rfl
            have hG : gW X F V ((pl, aI (gT X 0) ta.length f) :: (ua, oB 32 [.ref wa, .int (zI iua), .int (zI 0)]) :: (wa, aL (gT X 1) 1 fa) :: (ub, oB 32 [.ref wb, .int (zI iub), .int (zI 0)]) :: (wb, aL (gT X 1) 1 fb) :: (mt, oB 13 [.int (zI (r : Int)), .int (zI (tb.length : Int)), .ref pl, .int (zI z3), .int (zI z4), .ref a, .ref b, .ref ua, .ref ub]) :: Z) s _ _ := hG.pull 5 rfl rfl
            have hG : gW X F V ((mt, oB 13 [.int (zI (r : Int)), .int (zI (tb.length : Int)), .ref pl, .int (zI z3), .int (zI z4), .ref a, .ref b, .ref ua, .ref ub]) :: (pl, aI (gT X 0) ta.length f) :: (ua, oB 32 [.ref wa, .int (zI iua), .int (zI 0)]) :: (wa, aL (gT X 1) 1 fa) :: (ub, oB 32 [.ref wb, .int (zI iub), .int (zI 0)]) :: (wb, aL (gT X 1) 1 fb) :: Z) s _ _ := hG.pull 5 rfl rfl
            exact g_iret hx hb hr hlocks hG (⟨by rw [hrn, rn_stop (by rintro ⟨-, -, -, -, q⟩; rw [q] at h5; cases h5)]; exact congrArg zI (by omega), rfl, rfl, rfl⟩) ⟨Nat.le_of_ble_eq_true rfl, Nat.le_of_ble_eq_true rfl⟩ dX15_runAt_79
          · refine lv_iinc (v := zI ((k : Int) + 1 : Int)) (lv' := [(3, .int (zI ((k : Int) + 1 : Int))), (0, .ref mt), (1, .int (zI (i0 : Int))), (2, .int (zI (j0 : Int)))]) hx hb dX15_runAt_72 hl (k := 3) rfl ((zI_add _ _).trans (congrArg zI (by omega))) (by decide) rfl (fun ls hl => ?_)
            refine lv_goto (tgt := 2) hx hb dX15_runAt_75 (by decide) ?_
            have hG : gW X F V ((wb, aL (gT X 1) 1 fb) :: (ub, oB 32 [.ref wb, .int (zI iub), .int (zI 0)]) :: (ua, oB 32 [.ref wa, .int (zI iua), .int (zI 0)]) :: (wa, aL (gT X 1) 1 fa) :: (mt, oB 13 [.int (zI (r : Int)), .int (zI (tb.length : Int)), .ref pl, .int (zI z3), .int (zI z4), .ref a, .ref b, .ref ua, .ref ub]) :: (pl, aI (gT X 0) ta.length f) :: Z) s _ _ := hG.pull 1 rfl rfl
            have hG : gW X F V ((ub, oB 32 [.ref wb, .int (zI iub), .int (zI 0)]) :: (wb, aL (gT X 1) 1 fb) :: (ua, oB 32 [.ref wa, .int (zI iua), .int (zI 0)]) :: (wa, aL (gT X 1) 1 fa) :: (mt, oB 13 [.int (zI (r : Int)), .int (zI (tb.length : Int)), .ref pl, .int (zI z3), .int (zI z4), .ref a, .ref b, .ref ua, .ref ub]) :: (pl, aI (gT X 0) ta.length f) :: Z) s _ _ := hG.pull 1 rfl rfl
            have hG : gW X F V ((wa, aL (gT X 1) 1 fa) :: (ub, oB 32 [.ref wb, .int (zI iub), .int (zI 0)]) :: (wb, aL (gT X 1) 1 fb) :: (ua, oB 32 [.ref wa, .int (zI iua), .int (zI 0)]) :: (mt, oB 13 [.int (zI (r : Int)), .int (zI (tb.length : Int)), .ref pl, .int (zI z3), .int (zI z4), .ref a, .ref b, .ref ua, .ref ub]) :: (pl, aI (gT X 0) ta.length f) :: Z) s _ _ := hG.pull 3 rfl rfl
            have hG : gW X F V ((ua, oB 32 [.ref wa, .int (zI iua), .int (zI 0)]) :: (wa, aL (gT X 1) 1 fa) :: (ub, oB 32 [.ref wb, .int (zI iub), .int (zI 0)]) :: (wb, aL (gT X 1) 1 fb) :: (mt, oB 13 [.int (zI (r : Int)), .int (zI (tb.length : Int)), .ref pl, .int (zI z3), .int (zI z4), .ref a, .ref b, .ref ua, .ref ub]) :: (pl, aI (gT X 0) ta.length f) :: Z) s _ _ := hG.pull 3 rfl rfl
            have hG : gW X F V ((pl, aI (gT X 0) ta.length f) :: (ua, oB 32 [.ref wa, .int (zI iua), .int (zI 0)]) :: (wa, aL (gT X 1) 1 fa) :: (ub, oB 32 [.ref wb, .int (zI iub), .int (zI 0)]) :: (wb, aL (gT X 1) 1 fb) :: (mt, oB 13 [.int (zI (r : Int)), .int (zI (tb.length : Int)), .ref pl, .int (zI z3), .int (zI z4), .ref a, .ref b, .ref ua, .ref ub]) :: Z) s _ _ := hG.pull 5 rfl rfl
            have hG : gW X F V ((mt, oB 13 [.int (zI (r : Int)), .int (zI (tb.length : Int)), .ref pl, .int (zI z3), .int (zI z4), .ref a, .ref b, .ref ua, .ref ub]) :: (pl, aI (gT X 0) ta.length f) :: (ua, oB 32 [.ref wa, .int (zI iua), .int (zI 0)]) :: (wa, aL (gT X 1) 1 fa) :: (ub, oB 32 [.ref wb, .int (zI iub), .int (zI 0)]) :: (wb, aL (gT X 1) 1 fb) :: Z) s _ _ := hG.pull 5 rfl rfl
            have hl : lv_has ls 4 [(3, .int (zI ((k + 1 : Nat) : Int))), (0, .ref mt), (1, .int (zI (i0 : Int))), (2, .int (zI (j0 : Int)))] := by exact hl
            exact ihA (ta.length - (i0 + (k + 1))) (by omega) H locs ls ⟨(k + 1), ⟨by omega, rfl, by rw [hrn, rn_step (by omega) (by omega) hno huf (by cases hq : alk ta tb (i0 + k) (j0 + k) with | true => rfl | false => (rw [hq] at h5; exact absurd rfl h5))]; exact (Nat.add_assoc k 1 _).symm⟩, hG, (lv_sub hl [1, 2, 3, 0] rfl)⟩

set_option maxHeartbeats 4000000 in
theorem metX15_use {l : Launch} {X : gX} {F : gF} {V : gV} {Z : va_W} {i j mt pl ua wa ub wb a b xa xb r : Nat} {z3 z4 iua iub : Int} {ta tb : Tx} {f : Nat → Int32} {fa fb : Nat → Int64} {st : PU} (hS : mtS ta.length tb.length st f xa xb) (hba : bsR xa iua fa) (hbb : bsR xb iub fb) (hij : i < ta.length ∧ j < tb.length) : Met l yX15_use (ws_ yX15_use cX15_use 3 none) ({ frames := 3, cells := 0, slots := 0, locals := 66 }) (gP X F V ((mt, oB 13 [.int (zI (r : Int)), .int (zI (tb.length : Int)), .ref pl, .int (zI z3), .int (zI z4), .ref a, .ref b, .ref ua, .ref ub]) :: (pl, aI (gT X 0) ta.length f) :: (ua, oB 32 [.ref wa, .int (zI iua), .int (zI 0)]) :: (wa, aL (gT X 1) 1 fa) :: (ub, oB 32 [.ref wb, .int (zI iub), .int (zI 0)]) :: (wb, aL (gT X 1) 1 fb) :: Z) [.ref mt, .int (zI (i : Int)), .int (zI (j : Int))]) (gQv X (fun G U ws => F = G ∧ V = U ∧ ∃ (f9 : Nat → Int32) (ia9 ib9 : Int) (fa9 fb9 : Nat → Int64) (xa9 xb9 : Nat), mtS ta.length tb.length (puUse st i j) f9 xa9 xb9 ∧ bsR xa9 ia9 fa9 ∧ bsR xb9 ib9 fb9 ∧ ((mt, oB 13 [.int (zI (r : Int)), .int (zI (tb.length : Int)), .ref pl, .int (zI z3), .int (zI z4), .ref a, .ref b, .ref ua, .ref ub]) :: (pl, aI (gT X 0) ta.length f9) :: (ua, oB 32 [.ref wa, .int (zI ia9), .int (zI 0)]) :: (wa, aL (gT X 1) 1 fa9) :: (ub, oB 32 [.ref wb, .int (zI ib9), .int (zI 0)]) :: (wb, aL (gT X 1) 1 fb9) :: Z) = ws)) 0 0 (gA X) := by
  refine Met.g (by decide) (Nat.le_of_ble_eq_true rfl) ?_
  intro p e s m below meth c ls hx hb hr hts hown hlocks hml hin hG hl
  have hl : lv_has ls 3 [(0, .ref mt), (1, .int (zI (i : Int))), (2, .int (zI (j : Int)))] := hl
  have hm24 := hS.2.2.2.2.2
  refine lv_aload_n hx hb dX15_use_0 rfl (lv_at hl 0 rfl) ?_
  refine g_get (ci := 13) hx hb hts in_X15 hown hG (hG.at 0 rfl) rfl 2 (Nat.le_of_ble_eq_true rfl) (hts _ q1910) (fun _ h9 => h9) rfl dX15_use_1 ?_
  refine lv_iload_n hx hb dX15_use_4 rfl (lv_at hl 1 rfl) ?_
  refine lv_iload_n hx hb dX15_use_5 rfl (lv_at hl 2 rfl) ?_
  refine g_iast hx hb hG 1 rfl i ⟨rfl, by omega, by omega⟩ dX15_use_6 (fun H locs (hG : gW X F V ((mt, oB 13 [.int (zI (r : Int)), .int (zI (tb.length : Int)), .ref pl, .int (zI z3), .int (zI z4), .ref a, .ref b, .ref ua, .ref ub]) :: (pl, aI (gT X 0) ta.length (upd f i (zI (j : Int)))) :: (ua, oB 32 [.ref wa, .int (zI iua), .int (zI 0)]) :: (wa, aL (gT X 1) 1 fa) :: (ub, oB 32 [.ref wb, .int (zI iub), .int (zI 0)]) :: (wb, aL (gT X 1) 1 fb) :: Z) s H locs) => ?_)
  refine lv_aload_n hx hb dX15_use_7 rfl (lv_at hl 0 rfl) ?_
  refine g_get (ci := 13) hx hb hts in_X15 hown hG (hG.at 0 rfl) rfl 7 (Nat.le_of_ble_eq_true rfl) (hts _ q1920) (fun _ h9 => h9) rfl dX15_use_8 ?_
  refine lv_iload_n hx hb dX15_use_11 rfl (lv_at hl 1 rfl) ?_
  have hG : gW X F V ((wa, aL (gT X 1) 1 fa) :: (mt, oB 13 [.int (zI (r : Int)), .int (zI (tb.length : Int)), .ref pl, .int (zI z3), .int (zI z4), .ref a, .ref b, .ref ua, .ref ub]) :: (pl, aI (gT X 0) ta.length (upd f i (zI (j : Int)))) :: (ua, oB 32 [.ref wa, .int (zI iua), .int (zI 0)]) :: (ub, oB 32 [.ref wb, .int (zI iub), .int (zI 0)]) :: (wb, aL (gT X 1) 1 fb) :: Z) s _ _ := hG.pull 3 rfl rfl
  have hG : gW X F V ((ua, oB 32 [.ref wa, .int (zI iua), .int (zI 0)]) :: (wa, aL (gT X 1) 1 fa) :: (mt, oB 13 [.int (zI (r : Int)), .int (zI (tb.length : Int)), .ref pl, .int (zI z3), .int (zI z4), .ref a, .ref b, .ref ua, .ref ub]) :: (pl, aI (gT X 0) ta.length (upd f i (zI (j : Int)))) :: (ub, oB 32 [.ref wb, .int (zI iub), .int (zI 0)]) :: (wb, aL (gT X 1) 1 fb) :: Z) s _ _ := hG.pull 3 rfl rfl
  refine g_cv (va_runV (As := [.int (zI (i : Int))]) (rest := []) ⟨hx, hb, hml, hown, hts⟩ (metJ37_set (x := xa) (i := i) hba (by omega)) (cwV 1 hts (lw_V q1835 q1836 q1837 q142 q1838) rfl rfl rfl (by decide +kernel) ⟨Nat.le_of_ble_eq_true rfl, Nat.le_of_ble_eq_true rfl⟩) (g_preV hG (g_recv hG (hG.at 0 rfl) (ci := 32) rfl)) rfl rfl hl.1 rfl (lv_room (Nat.le_of_ble_eq_true rfl)) dX15_use_12 ⟨Nat.le_of_ble_eq_true rfl, Nat.le_of_ble_eq_true rfl⟩) hG (fun F_2 V_3 ws_ H locs hp hG => ?_)
  obtain ⟨rfl, rfl, rfl⟩ := hp
  have hG : gW X F V ((ua, oB 32 [.ref wa, .int (zI 1), .int (zI 0)]) :: (wa, aL (gT X 1) 1 (vp_updL fa 0 (lN (xa ||| 2 ^ i)))) :: (mt, oB 13 [.int (zI (r : Int)), .int (zI (tb.length : Int)), .ref pl, .int (zI z3), .int (zI z4), .ref a, .ref b, .ref ua, .ref ub]) :: (pl, aI (gT X 0) ta.length (upd f i (zI (j : Int)))) :: (ub, oB 32 [.ref wb, .int (zI iub), .int (zI 0)]) :: (wb, aL (gT X 1) 1 fb) :: Z) s H locs := hG
  refine lv_aload_n hx hb dX15_use_15 rfl (lv_at hl 0 rfl) ?_
  refine g_get (ci := 13) hx hb hts in_X15 hown hG (hG.at 2 rfl) rfl 8 (Nat.le_of_ble_eq_true rfl) (hts _ q1921) (fun _ h9 => h9) rfl dX15_use_16 ?_
  refine lv_iload_n hx hb dX15_use_19 rfl (lv_at hl 2 rfl) ?_
  have hG : gW X F V ((wb, aL (gT X 1) 1 fb) :: (ua, oB 32 [.ref wa, .int (zI 1), .int (zI 0)]) :: (wa, aL (gT X 1) 1 (vp_updL fa 0 (lN (xa ||| 2 ^ i)))) :: (mt, oB 13 [.int (zI (r : Int)), .int (zI (tb.length : Int)), .ref pl, .int (zI z3), .int (zI z4), .ref a, .ref b, .ref ua, .ref ub]) :: (pl, aI (gT X 0) ta.length (upd f i (zI (j : Int)))) :: (ub, oB 32 [.ref wb, .int (zI iub), .int (zI 0)]) :: Z) s _ _ := hG.pull 5 rfl rfl
  have hG : gW X F V ((ub, oB 32 [.ref wb, .int (zI iub), .int (zI 0)]) :: (wb, aL (gT X 1) 1 fb) :: (ua, oB 32 [.ref wa, .int (zI 1), .int (zI 0)]) :: (wa, aL (gT X 1) 1 (vp_updL fa 0 (lN (xa ||| 2 ^ i)))) :: (mt, oB 13 [.int (zI (r : Int)), .int (zI (tb.length : Int)), .ref pl, .int (zI z3), .int (zI z4), .ref a, .ref b, .ref ua, .ref ub]) :: (pl, aI (gT X 0) ta.length (upd f i (zI (j : Int)))) :: Z) s _ _ := hG.pull 5 rfl rfl
  refine g_cv (va_runV (As := [.int (zI (j : Int))]) (rest := []) ⟨hx, hb, hml, hown, hts⟩ (metJ37_set (x := xb) (i := j) hbb (by omega)) (cwV 1 hts (lw_V q1835 q1836 q1837 q142 q1838) rfl rfl rfl (by decide +kernel) ⟨Nat.le_of_ble_eq_true rfl, Nat.le_of_ble_eq_true rfl⟩) (g_preV hG (g_recv hG (hG.at 0 rfl) (ci := 32) rfl)) rfl rfl hl.1 rfl (lv_room (Nat.le_of_ble_eq_true rfl)) dX15_use_20 ⟨Nat.le_of_ble_eq_true rfl, Nat.le_of_ble_eq_true rfl⟩) hG (fun F_5 V_6 ws_ H locs hp hG => ?_)
  obtain ⟨rfl, rfl, rfl⟩ := hp
  have hG : gW X F V ((ub, oB 32 [.ref wb, .int (zI 1), .int (zI 0)]) :: (wb, aL (gT X 1) 1 (vp_updL fb 0 (lN (xb ||| 2 ^ j)))) :: (ua, oB 32 [.ref wa, .int (zI 1), .int (zI 0)]) :: (wa, aL (gT X 1) 1 (vp_updL fa 0 (lN (xa ||| 2 ^ i)))) :: (mt, oB 13 [.int (zI (r : Int)), .int (zI (tb.length : Int)), .ref pl, .int (zI z3), .int (zI z4), .ref a, .ref b, .ref ua, .ref ub]) :: (pl, aI (gT X 0) ta.length (upd f i (zI (j : Int)))) :: Z) s H locs := hG
  have hG : gW X F V ((wb, aL (gT X 1) 1 (vp_updL fb 0 (lN (xb ||| 2 ^ j)))) :: (ub, oB 32 [.ref wb, .int (zI 1), .int (zI 0)]) :: (ua, oB 32 [.ref wa, .int (zI 1), .int (zI 0)]) :: (wa, aL (gT X 1) 1 (vp_updL fa 0 (lN (xa ||| 2 ^ i)))) :: (mt, oB 13 [.int (zI (r : Int)), .int (zI (tb.length : Int)), .ref pl, .int (zI z3), .int (zI z4), .ref a, .ref b, .ref ua, .ref ub]) :: (pl, aI (gT X 0) ta.length (upd f i (zI (j : Int)))) :: Z) s _ _ := hG.pull 1 rfl rfl
  have hG : gW X F V ((ub, oB 32 [.ref wb, .int (zI 1), .int (zI 0)]) :: (wb, aL (gT X 1) 1 (vp_updL fb 0 (lN (xb ||| 2 ^ j)))) :: (ua, oB 32 [.ref wa, .int (zI 1), .int (zI 0)]) :: (wa, aL (gT X 1) 1 (vp_updL fa 0 (lN (xa ||| 2 ^ i)))) :: (mt, oB 13 [.int (zI (r : Int)), .int (zI (tb.length : Int)), .ref pl, .int (zI z3), .int (zI z4), .ref a, .ref b, .ref ua, .ref ub]) :: (pl, aI (gT X 0) ta.length (upd f i (zI (j : Int)))) :: Z) s _ _ := hG.pull 1 rfl rfl
  have hG : gW X F V ((wa, aL (gT X 1) 1 (vp_updL fa 0 (lN (xa ||| 2 ^ i)))) :: (ub, oB 32 [.ref wb, .int (zI 1), .int (zI 0)]) :: (wb, aL (gT X 1) 1 (vp_updL fb 0 (lN (xb ||| 2 ^ j)))) :: (ua, oB 32 [.ref wa, .int (zI 1), .int (zI 0)]) :: (mt, oB 13 [.int (zI (r : Int)), .int (zI (tb.length : Int)), .ref pl, .int (zI z3), .int (zI z4), .ref a, .ref b, .ref ua, .ref ub]) :: (pl, aI (gT X 0) ta.length (upd f i (zI (j : Int)))) :: Z) s _ _ := hG.pull 3 rfl rfl
  have hG : gW X F V ((ua, oB 32 [.ref wa, .int (zI 1), .int (zI 0)]) :: (wa, aL (gT X 1) 1 (vp_updL fa 0 (lN (xa ||| 2 ^ i)))) :: (ub, oB 32 [.ref wb, .int (zI 1), .int (zI 0)]) :: (wb, aL (gT X 1) 1 (vp_updL fb 0 (lN (xb ||| 2 ^ j)))) :: (mt, oB 13 [.int (zI (r : Int)), .int (zI (tb.length : Int)), .ref pl, .int (zI z3), .int (zI z4), .ref a, .ref b, .ref ua, .ref ub]) :: (pl, aI (gT X 0) ta.length (upd f i (zI (j : Int)))) :: Z) s _ _ := hG.pull 3 rfl rfl
  have hG : gW X F V ((pl, aI (gT X 0) ta.length (upd f i (zI (j : Int)))) :: (ua, oB 32 [.ref wa, .int (zI 1), .int (zI 0)]) :: (wa, aL (gT X 1) 1 (vp_updL fa 0 (lN (xa ||| 2 ^ i)))) :: (ub, oB 32 [.ref wb, .int (zI 1), .int (zI 0)]) :: (wb, aL (gT X 1) 1 (vp_updL fb 0 (lN (xb ||| 2 ^ j)))) :: (mt, oB 13 [.int (zI (r : Int)), .int (zI (tb.length : Int)), .ref pl, .int (zI z3), .int (zI z4), .ref a, .ref b, .ref ua, .ref ub]) :: Z) s _ _ := hG.pull 5 rfl rfl
  have hG : gW X F V ((mt, oB 13 [.int (zI (r : Int)), .int (zI (tb.length : Int)), .ref pl, .int (zI z3), .int (zI z4), .ref a, .ref b, .ref ua, .ref ub]) :: (pl, aI (gT X 0) ta.length (upd f i (zI (j : Int)))) :: (ua, oB 32 [.ref wa, .int (zI 1), .int (zI 0)]) :: (wa, aL (gT X 1) 1 (vp_updL fa 0 (lN (xa ||| 2 ^ i)))) :: (ub, oB 32 [.ref wb, .int (zI 1), .int (zI 0)]) :: (wb, aL (gT X 1) 1 (vp_updL fb 0 (lN (xb ||| 2 ^ j)))) :: Z) s _ _ := hG.pull 5 rfl rfl
  exact g_vret hx hb hr hlocks hG (⟨rfl, rfl, upd f i (zI (j : Int)), 1, 1, vp_updL fa 0 (lN (xa ||| 2 ^ i)), vp_updL fb 0 (lN (xb ||| 2 ^ j)), xa ||| 2 ^ i, xb ||| 2 ^ j, hS.use hij.1 hij.2, hba.set (by omega), hbb.set (by omega), rfl⟩) ⟨Nat.le_of_ble_eq_true rfl, Nat.le_of_ble_eq_true rfl⟩ dX15_use_23

