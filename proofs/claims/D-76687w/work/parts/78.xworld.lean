set_option maxRecDepth 100000
/-- the component's cells of the roles from b on are a world -/
def xWd (X : gX) (F : gF) (V : gV) (b : Nat) (w : aW) (wa rv rk st : Nat) (ra la ma : Nat → Nat) : Prop := V b = some (wa, xwE w rv rk st) ∧ (∃ f : Nat → Option Nat, V (b + 1) = some (rv, aR (gT X 7) 16 f) ∧ ∀ r, r < wN w → f r = some (ra r)) ∧ (∃ f : Nat → Option Nat, V (b + 2) = some (rk, aR (gT X 8) 16 f) ∧ ∀ m, m < wM w → f m = some (ma m)) ∧ (∃ f : Nat → Int32, V (b + 3) = some (st, aI (gT X 5) 16 f) ∧ ∀ m, m < wM w → f m = zI (bI (wSt w m))) ∧ xRv X F w ra la ∧ ∀ m, m < wM w → isRmk F ra (ma m) (rKind (wRk w m)) m (wRk w m)
theorem isRmk.mono {F G : gF} {ra : Nat → Nat} {a kd i : Nat} {r : Rm} (h : isRmk F ra a kd i r) (hl : gLe F G) : isRmk G ra a kd i r := hl.1 _ _ h
theorem xWd.mono {X : gX} {F G : gF} {V : gV} {b : Nat} {w : aW} {wa rv rk st : Nat} {ra la ma : Nat → Nat} (h : xWd X F V b w wa rv rk st ra la ma) (hl : gLe F G) : xWd X G V b w wa rv rk st ra la ma := ⟨h.1, h.2.1, h.2.2.1, h.2.2.2.1, h.2.2.2.2.1.mono hl, fun m hm => (h.2.2.2.2.2 m hm).mono hl⟩
/-- the roles of a world stay -/
def vxB (b : Nat) (V U : gV) : Prop := ∀ r, r < b ∨ b + 4 ≤ r → U r = V r
theorem vxB.rf {b : Nat} {V : gV} : vxB b V V := fun _ _ => rfl
theorem vxB.tr {b : Nat} {V U W : gV} (h : vxB b V U) (k : vxB b U W) : vxB b V W := fun r hr => (k r hr).trans (h r hr)
theorem vxB.up {b j : Nat} {V U : gV} (h : vxB b V U) {x : Option (Nat × va_E)} (hj : b ≤ j ∧ j < b + 4) : vxB b V (va_up U j x) := fun r hr => (va_up_ne _ _ (by omega)).trans (h r hr)
theorem xWd.cg {X : gX} {F : gF} {V U : gV} {b : Nat} {w : aW} {wa rv rk st : Nat} {ra la ma : Nat → Nat} (h : xWd X F V b w wa rv rk st ra la ma) (e : ∀ r, b ≤ r → r < b + 4 → U r = V r) : xWd X F U b w wa rv rk st ra la ma := by
  unfold xWd
  rw [e b (by omega) (by omega), e (b + 1) (by omega) (by omega), e (b + 2) (by omega) (by omega), e (b + 3) (by omega) (by omega)]
  exact h
theorem xRv.add {X : gX} {F : gF} {w : aW} {ra la : Nat → Nat} (h : xRv X F w ra la) {fo : Option Nat} {t : Tx} {a lt : Nat} (hfo : ∀ f, fo = some f → f < wN w) (hold : ∀ r f, wFo w r = some f → f < r) (h2 : F.2 a = some (wN w, fo.map ra, lt)) (ht : isText X F lt t) : xRv X F (wAdd w fo t) (va_up ra (wN w) a) (va_up la (wN w) lt) := by
  have hmap : ∀ o : Option Nat, (∀ f, o = some f → f < wN w) → o.map (va_up ra (wN w) a) = o.map ra := fun o ho => by
    cases o with
    | none => rfl
    | some f => have := ho f rfl; show some _ = some _; rw [va_up_ne _ _ (by omega)]
  intro r hr
  have hr : r < wN w + 1 := hr
  show F.2 (va_up ra (wN w) a r) = some (r, (va_up (wFo w) (wN w) fo r).map (va_up ra (wN w) a), va_up la (wN w) lt r) ∧ isText X F (va_up la (wN w) lt r) (va_up (wTx w) (wN w) t r)
  by_cases e : r = wN w
  · subst e
    rw [va_up_self, va_up_self, va_up_self, va_up_self, hmap fo hfo]
    exact ⟨h2, ht⟩
  · rw [va_up_ne _ _ e, va_up_ne _ _ e, va_up_ne _ _ e, va_up_ne _ _ e, hmap _ (fun f hf => by have := hold _ _ hf; omega)]
    exact h r (by omega)
theorem isRmk.ra {F : gF} {ra : Nat → Nat} {a kd i k x : Nat} {r : Rm} (h : isRmk F ra a kd i r) (hk : rOn r ≠ k) : isRmk F (va_up ra k x) a kd i r := by
  unfold isRmk; rw [va_up_ne _ _ hk]; exact h
section G13
variable {s : State} {H : Heap} {locs : List Loc} {X : gX} {F : gF} {V : gV} {ws : va_W}
def rmC : Nat → String
  | 0 => "LineRemarks$Remark"
  | 1 => "LineRemarks$Point"
  | 2 => "LineRemarks$Block"
  | 3 => "LineRemarks$Caret"
  | 4 => "LineRemarks$Loose"
  | 5 => "LineRemarks$Wall"
  | _ => "LineRemarks$Tail"
theorem rm_recv (hG : gW X F V ws s H locs) {a kd : Nat} {fs : List Value} (hkd : kd ≤ 6) (h : F.1 a = some (oB (14 + kd) fs)) : ∃ cell : Cell, H[a]? = some cell ∧ cell.vm.isStatics = false ∧ s.vm.findClass (rmC kd) = some cell.cls := by
  obtain rfl | rfl | rfl | rfl | rfl | rfl | rfl : kd = 0 ∨ kd = 1 ∨ kd = 2 ∨ kd = 3 ∨ kd = 4 ∨ kd = 5 ∨ kd = 6 := by omega
  · exact g_recv hG (hG.fz h) (ci := 14) rfl
  · exact g_recv hG (hG.fz h) (ci := 15) rfl
  · exact g_recv hG (hG.fz h) (ci := 16) rfl
  · exact g_recv hG (hG.fz h) (ci := 17) rfl
  · exact g_recv hG (hG.fz h) (ci := 18) rfl
  · exact g_recv hG (hG.fz h) (ci := 19) rfl
  · exact g_recv hG (hG.fz h) (ci := 20) rfl
theorem rm_asg (hG : gW X F V ws s H locs) {kd : Nat} (hkd : kd ≤ 6) : ∀ comp c0 : ClassId, s.vm.findClass "LineRemarks$Remark" = some comp → s.vm.findClass (rmC kd) = some c0 → s.vm.assignable c0 comp = true := by
  obtain rfl | rfl | rfl | rfl | rfl | rfl | rfl : kd = 0 ∨ kd = 1 ∨ kd = 2 ∨ kd = 3 ∨ kd = 4 ∨ kd = 5 ∨ kd = 6 := by omega
  · intro _ _ h1 h2; have h2 : s.vm.findClass "LineRemarks$Remark" = _ := h2; cases h1.symm.trans h2; exact va_asg _ _
  · exact cast_asg (hG.1.2.1.1 _ qn3789)
  · exact cast_asg (hG.1.2.1.1 _ qn3786)
  · exact cast_asg (hG.1.2.1.1 _ qn3787)
  · exact cast_asg (hG.1.2.1.1 _ qn3788)
  · exact cast_asg (hG.1.2.1.1 _ qn3791)
  · exact cast_asg (hG.1.2.1.1 _ qn3790)
end G13
set_option maxHeartbeats 4000000 in
theorem metX2_isRevision {l : Launch} {X : gX} {F : gF} {V : gV} {Z : va_W} {x : Int} {wa rv rk st : Nat} {ra la ma : Nat → Nat} {w : aW} (hW : xWd X F V 4 w wa rv rk st ra la ma) (hK : wOK w) (hr0 : -2147483648 ≤ x ∧ x < 2147483648) : Met l yX2_isRevision (ws_ yX2_isRevision cX2_isRevision 2 (some FieldType.boolean)) ({ frames := 0, cells := 0, slots := 0, locals := 0 }) (gP X F V (Z) [.ref wa, .int (zI x)]) (gQi X (fun u G U ws => u = zI (bI (decide (0 ≤ x ∧ x < wN w))) ∧ F = G ∧ V = U ∧ Z = ws)) 0 0 (gA X) := by
  refine Met.g (by decide) (Nat.le_of_ble_eq_true rfl) ?_
  intro p e s m below meth c ls hx hb hr hts hown hlocks hml hin hG hl
  have hl : lv_has ls 2 [(0, .ref wa), (1, .int (zI x))] := hl
  have hNN := hK.n
  have hMM := hK.m
  have hw0 := hW.1
  refine lv_iload_n hx hb dX2_isRevision_0 rfl (lv_at hl 1 rfl) ?_
  refine g_lt (tgt := 16) hx hb dX2_isRevision_1 (by decide) (by omega) (fun h1 => ?_) (fun h1 => ?_)
  · refine lv_iconst (v := zI 0) hx hb dX2_isRevision_16 (by decide +kernel) ?_
    exact g_zret hx hb hr hlocks rfl hG (⟨by rw [decide_eq_false (by omega)]; rfl, rfl, rfl, rfl⟩) ⟨Nat.le_of_ble_eq_true rfl, Nat.le_of_ble_eq_true rfl⟩ dX2_isRevision_17
  · refine lv_iload_n hx hb dX2_isRevision_4 rfl (lv_at hl 1 rfl) ?_
    refine lv_aload_n hx hb dX2_isRevision_5 rfl (lv_at hl 0 rfl) ?_
    refine g_get (ci := 2) hx hb hts in_X2 hown hG (hG.vo hw0) rfl 0 (Nat.le_of_ble_eq_true rfl) (hts _ q333) (fun _ h9 => h9) rfl dX2_isRevision_6 ?_
    refine g_cge (tgt := 16) hx hb dX2_isRevision_9 (by decide) (by omega) (fun h2 => ?_) (fun h2 => ?_)
    · refine lv_iconst (v := zI 0) hx hb dX2_isRevision_16 (by decide +kernel) ?_
      exact g_zret hx hb hr hlocks rfl hG (⟨by rw [decide_eq_false (by omega)]; rfl, rfl, rfl, rfl⟩) ⟨Nat.le_of_ble_eq_true rfl, Nat.le_of_ble_eq_true rfl⟩ dX2_isRevision_17
    · refine lv_iconst (v := zI 1) hx hb dX2_isRevision_12 (by decide +kernel) ?_
      refine lv_goto (tgt := 17) hx hb dX2_isRevision_13 (by decide) ?_
      exact g_zret hx hb hr hlocks rfl hG (⟨by rw [decide_eq_true (by omega)]; rfl, rfl, rfl, rfl⟩) ⟨Nat.le_of_ble_eq_true rfl, Nat.le_of_ble_eq_true rfl⟩ dX2_isRevision_17

set_option maxHeartbeats 4000000 in
theorem metX2_isRemark {l : Launch} {X : gX} {F : gF} {V : gV} {Z : va_W} {x : Int} {wa rv rk st : Nat} {ra la ma : Nat → Nat} {w : aW} (hW : xWd X F V 4 w wa rv rk st ra la ma) (hK : wOK w) (hr0 : -2147483648 ≤ x ∧ x < 2147483648) : Met l yX2_isRemark (ws_ yX2_isRemark cX2_isRemark 2 (some FieldType.boolean)) ({ frames := 0, cells := 0, slots := 0, locals := 0 }) (gP X F V (Z) [.ref wa, .int (zI x)]) (gQi X (fun u G U ws => u = zI (bI (decide (0 ≤ x ∧ x < wM w))) ∧ F = G ∧ V = U ∧ Z = ws)) 0 0 (gA X) := by
  refine Met.g (by decide) (Nat.le_of_ble_eq_true rfl) ?_
  intro p e s m below meth c ls hx hb hr hts hown hlocks hml hin hG hl
  have hl : lv_has ls 2 [(0, .ref wa), (1, .int (zI x))] := hl
  have hNN := hK.n
  have hMM := hK.m
  have hw0 := hW.1
  refine lv_iload_n hx hb dX2_isRemark_0 rfl (lv_at hl 1 rfl) ?_
  refine g_lt (tgt := 16) hx hb dX2_isRemark_1 (by decide) (by omega) (fun h1 => ?_) (fun h1 => ?_)
  · refine lv_iconst (v := zI 0) hx hb dX2_isRemark_16 (by decide +kernel) ?_
    exact g_zret hx hb hr hlocks rfl hG (⟨by rw [decide_eq_false (by omega)]; rfl, rfl, rfl, rfl⟩) ⟨Nat.le_of_ble_eq_true rfl, Nat.le_of_ble_eq_true rfl⟩ dX2_isRemark_17
  · refine lv_iload_n hx hb dX2_isRemark_4 rfl (lv_at hl 1 rfl) ?_
    refine lv_aload_n hx hb dX2_isRemark_5 rfl (lv_at hl 0 rfl) ?_
    refine g_get (ci := 2) hx hb hts in_X2 hown hG (hG.vo hw0) rfl 1 (Nat.le_of_ble_eq_true rfl) (hts _ q335) (fun _ h9 => h9) rfl dX2_isRemark_6 ?_
    refine g_cge (tgt := 16) hx hb dX2_isRemark_9 (by decide) (by omega) (fun h2 => ?_) (fun h2 => ?_)
    · refine lv_iconst (v := zI 0) hx hb dX2_isRemark_16 (by decide +kernel) ?_
      exact g_zret hx hb hr hlocks rfl hG (⟨by rw [decide_eq_false (by omega)]; rfl, rfl, rfl, rfl⟩) ⟨Nat.le_of_ble_eq_true rfl, Nat.le_of_ble_eq_true rfl⟩ dX2_isRemark_17
    · refine lv_iconst (v := zI 1) hx hb dX2_isRemark_12 (by decide +kernel) ?_
      refine lv_goto (tgt := 17) hx hb dX2_isRemark_13 (by decide) ?_
      exact g_zret hx hb hr hlocks rfl hG (⟨by rw [decide_eq_true (by omega)]; rfl, rfl, rfl, rfl⟩) ⟨Nat.le_of_ble_eq_true rfl, Nat.le_of_ble_eq_true rfl⟩ dX2_isRemark_17

set_option maxHeartbeats 4000000 in
theorem metX2_add {l : Launch} {X : gX} {F : gF} {V : gV} {Z : va_W} {lt : Nat} {fo : Option Nat} {t : Tx} {wa rv rk st : Nat} {ra la ma : Nat → Nat} {w : aW} (hW : xWd X F V 4 w wa rv rk st ra la ma) (hK : wOK w) (hN : wN w < 16) (hfo : ∀ f, fo = some f → f < wN w) (htx : isText X F lt t) : Met l yX2_add (ws_ yX2_add cX2_add 3 (some FieldType.int)) ({ frames := 2, cells := 1, slots := 4, locals := 43 }) (gP X F V (Z) [.ref wa, va_rf (fo.map ra), .ref lt]) (gQi X (fun u G U ws => gLe F G ∧ u = zI (wN w : Int) ∧ ∃ ra9 la9 : Nat → Nat, xWd X G U 4 (wAdd w fo t) wa rv rk st ra9 la9 ma ∧ vxB 4 V U ∧ Z = ws)) 1 4 (gA X) := by
  refine Met.g (by decide) (by cases fo <;> exact Nat.le_of_ble_eq_true rfl) ?_
  intro p e s m below meth c ls hx hb hr hts hown hlocks hml hin hG hl
  have hl : lv_has ls 3 [(0, .ref wa), (1, va_rf (fo.map ra)), (2, .ref lt)] := by cases fo <;> exact hl
  have hNN := hK.n
  obtain ⟨hw0, ⟨fR, hw1, hwR⟩, ⟨fM, hw2, hwM⟩, ⟨fS, hw3, hwS⟩, hR, hMk⟩ := hW
  have hw1 : V 5 = some (rv, aR (gT X 7) 16 fR) := hw1
  have hw2 : V 6 = some (rk, aR (gT X 8) 16 fM) := hw2
  have hw3 : V 7 = some (st, aI (gT X 5) 16 fS) := hw3
  have hwE : V 4 = some (wa, xwE w rv rk st) := hw0
  rcases fo with _ | f
  · have hl : lv_has ls 3 [(0, .ref wa), (1, .null), (2, .ref lt)] := hl
    refine lv_aload_n hx hb dX2_add_0 rfl (lv_at hl 0 rfl) ?_
    refine g_get (ci := 2) hx hb hts in_X2 hown hG (hG.vo hw0) rfl 6 (Nat.le_of_ble_eq_true rfl) (hts _ q348) (fun _ h9 => h9) rfl dX2_add_1 ?_
    refine lv_aload_n hx hb dX2_add_4 rfl (lv_at hl 0 rfl) ?_
    refine g_get (ci := 2) hx hb hts in_X2 hown hG (hG.vo hw0) rfl 0 (Nat.le_of_ble_eq_true rfl) (hts _ q333) (fun _ h9 => h9) rfl dX2_add_5 ?_
    refine g_new (ci := 12) hx hb hts in_X14 tyX14 tyX14_ok hown (hts _ q329) (hts _ q1714) (hts _ q140) hG rfl (fs := [.int (zI 0), .null, .null, .null]) rfl ⟨Nat.le_of_ble_eq_true rfl, Nat.le_of_ble_eq_true rfl⟩ dX2_add_8 (fun rr H (hG : gW X F V ((rr, oB 12 [.int (zI 0), .null, .null, .null]) :: Z) s H _) => ?_)
    refine lv_dup hx hb dX2_add_11 rfl ?_
    refine lv_aload_n hx hb dX2_add_12 rfl (lv_at hl 0 rfl) ?_
    refine g_get (ci := 2) hx hb hts in_X2 hown hG (hG.vo hw0) rfl 0 (Nat.le_of_ble_eq_true rfl) (hts _ q333) (fun _ h9 => h9) rfl dX2_add_13 ?_
    refine lv_aload_nN hx hb dX2_add_16 rfl (lv_at hl 1 rfl) ?_
    refine lv_aload_n hx hb dX2_add_17 rfl (lv_at hl 2 rfl) ?_
    refine g_cv (va_runI (As := [.int (zI (wN w : Int)), .null, .ref lt]) (rest := [.ref rr, .int (zI (wN w : Int)), .ref rv]) ⟨hx, hb, hml, hown, hts⟩ (metX14_init_n) (cwI 3 hts (lw_meth q1717) rfl rfl rfl (hts _ q140) (hts _ q1715) (hts _ q1716) rfl (by decide +kernel) ⟨Nat.le_of_ble_eq_true rfl, Nat.le_of_ble_eq_true rfl⟩) (g_preS hG) rfl rfl hl.1 rfl (lv_room (Nat.le_of_ble_eq_true rfl)) dX2_add_18 ⟨Nat.le_of_ble_eq_true rfl, Nat.le_of_ble_eq_true rfl⟩) hG (fun F_2 V_3 ws_ H locs hp hG => ?_)
    obtain ⟨rfl, rfl, rfl⟩ := hp
    have hG : gW X F V ((rr, oB 12 [.int (zI (wN w : Int)), .null, .ref lt, .null]) :: Z) s H locs := hG
    obtain ⟨G1, hle_G1, hrr, hG⟩ := (show gW X F V ((rr, oB ciRev [.int (zI ((wN w : Nat) : Int)), va_rf (none), .ref lt, .null]) :: Z) s _ _ from hG).freezeR
    have hG : gW X G1 V (Z) s _ _ := hG
    refine g_aastV hx hb hG hw1 7 rfl (rev_recv hG hrr) (fun _ _ h1 h2 => by cases h1.symm.trans h2; exact va_asg _ _) cls_ex (wN w) ⟨rfl, by omega, by omega⟩ dX2_add_21 (fun H locs (hG : gW X G1 (va_up V 5 (some (rv, aR (gT X 7) 16 (va_up fR (wN w) (some rr))))) (Z) s H locs) => ?_)
    have hw1 : (va_up V 5 (some (rv, aR (gT X 7) 16 (va_up fR (wN w) (some rr))))) 5 = some (rv, aR (gT X 7) 16 (va_up fR (wN w) (some rr))) := vus
    have hw2 : (va_up V 5 (some (rv, aR (gT X 7) 16 (va_up fR (wN w) (some rr))))) 6 = some (rk, aR (gT X 8) 16 fM) := (vun (by decide)).trans hw2
    have hw3 : (va_up V 5 (some (rv, aR (gT X 7) 16 (va_up fR (wN w) (some rr))))) 7 = some (st, aI (gT X 5) 16 fS) := (vun (by decide)).trans hw3
    have hw0 : (va_up V 5 (some (rv, aR (gT X 7) 16 (va_up fR (wN w) (some rr))))) 4 = some (wa, oB 2 [.int (zI (wN w : Int)), .int (zI (wM w : Int)), .int (zI (wRun w : Int)), .int (zI (wNeed w : Int)), .int (zI (wMar w : Int)), .int (wSeed w), .ref rv, .ref rk, .ref st]) := (vun (by decide)).trans hw0
    refine lv_aload_n hx hb dX2_add_22 rfl (lv_at hl 0 rfl) ?_
    refine lv_dup hx hb dX2_add_23 rfl ?_
    refine g_get (ci := 2) hx hb hts in_X2 hown hG (hG.vo hw0) rfl 0 (Nat.le_of_ble_eq_true rfl) (hts _ q333) (fun _ h9 => h9) rfl dX2_add_24 ?_
    refine lv_dup_x1 hx hb dX2_add_27 rfl rfl ?_
    refine lv_iconst (v := zI 1) hx hb dX2_add_28 (by decide +kernel) ?_
    refine g_iadd hx hb dX2_add_29 ?_
    refine g_putV (ci := 2) hx hb hts in_X2 tyX2 tyX2_ok nmX2 hown hG hw0 rfl 0 (Nat.le_of_ble_eq_true rfl) (hts _ q333) (fun _ h9 => h9) rfl (tyX2_ok 0 (Nat.le_of_ble_eq_true rfl)) rfl rfl (Nat.le_of_ble_eq_true rfl) dX2_add_30 (fun H locs (hG : gW X G1 (va_up (va_up V 5 (some (rv, aR (gT X 7) 16 (va_up fR (wN w) (some rr))))) 4 (some (wa, oB 2 [.int (zI ((wN w : Int) + 1)), .int (zI (wM w : Int)), .int (zI (wRun w : Int)), .int (zI (wNeed w : Int)), .int (zI (wMar w : Int)), .int (wSeed w), .ref rv, .ref rk, .ref st]))) (Z) s H locs) => ?_)
    have hw1 : (va_up (va_up V 5 (some (rv, aR (gT X 7) 16 (va_up fR (wN w) (some rr))))) 4 (some (wa, oB 2 [.int (zI ((wN w : Int) + 1)), .int (zI (wM w : Int)), .int (zI (wRun w : Int)), .int (zI (wNeed w : Int)), .int (zI (wMar w : Int)), .int (wSeed w), .ref rv, .ref rk, .ref st]))) 5 = some (rv, aR (gT X 7) 16 (va_up fR (wN w) (some rr))) := (vun (by decide)).trans hw1
    have hw2 : (va_up (va_up V 5 (some (rv, aR (gT X 7) 16 (va_up fR (wN w) (some rr))))) 4 (some (wa, oB 2 [.int (zI ((wN w : Int) + 1)), .int (zI (wM w : Int)), .int (zI (wRun w : Int)), .int (zI (wNeed w : Int)), .int (zI (wMar w : Int)), .int (wSeed w), .ref rv, .ref rk, .ref st]))) 6 = some (rk, aR (gT X 8) 16 fM) := (vun (by decide)).trans hw2
    have hw3 : (va_up (va_up V 5 (some (rv, aR (gT X 7) 16 (va_up fR (wN w) (some rr))))) 4 (some (wa, oB 2 [.int (zI ((wN w : Int) + 1)), .int (zI (wM w : Int)), .int (zI (wRun w : Int)), .int (zI (wNeed w : Int)), .int (zI (wMar w : Int)), .int (wSeed w), .ref rv, .ref rk, .ref st]))) 7 = some (st, aI (gT X 5) 16 fS) := (vun (by decide)).trans hw3
    have hw0 : (va_up (va_up V 5 (some (rv, aR (gT X 7) 16 (va_up fR (wN w) (some rr))))) 4 (some (wa, oB 2 [.int (zI ((wN w : Int) + 1)), .int (zI (wM w : Int)), .int (zI (wRun w : Int)), .int (zI (wNeed w : Int)), .int (zI (wMar w : Int)), .int (wSeed w), .ref rv, .ref rk, .ref st]))) 4 = some (wa, oB 2 [.int (zI ((wN w : Int) + 1)), .int (zI (wM w : Int)), .int (zI (wRun w : Int)), .int (zI (wNeed w : Int)), .int (zI (wMar w : Int)), .int (wSeed w), .ref rv, .ref rk, .ref st]) := vus
    exact g_iret hx hb hr hlocks hG (⟨hle_G1, rfl, va_up ra (wN w) rr, va_up la (wN w) lt, ⟨hw0, ⟨_, hw1, fun r hr => by (have hr : r < wN w + 1 := hr); by_cases e : r = wN w; (rw [e, va_up_self, va_up_self]); (rw [va_up_ne _ _ e, va_up_ne _ _ e]; exact hwR r (by omega))⟩, ⟨fM, hw2, hwM⟩, ⟨fS, hw3, hwS⟩, (hR.mono hle_G1).add hfo hK.fo hrr (htx.mono hle_G1), fun m hm => ((hMk m hm).mono hle_G1).ra (by have := (hK.rk hm).2.2.1; omega)⟩, vxB.rf.up (by omega) |>.up (by omega), rfl⟩) ⟨Nat.le_of_ble_eq_true rfl, Nat.le_of_ble_eq_true rfl⟩ dX2_add_33
  · have hl : lv_has ls 3 [(0, .ref wa), (1, .ref (ra f)), (2, .ref lt)] := hl
    refine lv_aload_n hx hb dX2_add_0 rfl (lv_at hl 0 rfl) ?_
    refine g_get (ci := 2) hx hb hts in_X2 hown hG (hG.vo hw0) rfl 6 (Nat.le_of_ble_eq_true rfl) (hts _ q348) (fun _ h9 => h9) rfl dX2_add_1 ?_
    refine lv_aload_n hx hb dX2_add_4 rfl (lv_at hl 0 rfl) ?_
    refine g_get (ci := 2) hx hb hts in_X2 hown hG (hG.vo hw0) rfl 0 (Nat.le_of_ble_eq_true rfl) (hts _ q333) (fun _ h9 => h9) rfl dX2_add_5 ?_
    refine g_new (ci := 12) hx hb hts in_X14 tyX14 tyX14_ok hown (hts _ q329) (hts _ q1714) (hts _ q140) hG rfl (fs := [.int (zI 0), .null, .null, .null]) rfl ⟨Nat.le_of_ble_eq_true rfl, Nat.le_of_ble_eq_true rfl⟩ dX2_add_8 (fun rr H (hG : gW X F V ((rr, oB 12 [.int (zI 0), .null, .null, .null]) :: Z) s H _) => ?_)
    refine lv_dup hx hb dX2_add_11 rfl ?_
    refine lv_aload_n hx hb dX2_add_12 rfl (lv_at hl 0 rfl) ?_
    refine g_get (ci := 2) hx hb hts in_X2 hown hG (hG.vo hw0) rfl 0 (Nat.le_of_ble_eq_true rfl) (hts _ q333) (fun _ h9 => h9) rfl dX2_add_13 ?_
    refine lv_aload_n hx hb dX2_add_16 rfl (lv_at hl 1 rfl) ?_
    refine lv_aload_n hx hb dX2_add_17 rfl (lv_at hl 2 rfl) ?_
    refine g_cv (va_runI (As := [.int (zI (wN w : Int)), .ref (ra f), .ref lt]) (rest := [.ref rr, .int (zI (wN w : Int)), .ref rv]) ⟨hx, hb, hml, hown, hts⟩ (metX14_init_s) (cwI 3 hts (lw_meth q1717) rfl rfl rfl (hts _ q140) (hts _ q1715) (hts _ q1716) rfl (by decide +kernel) ⟨Nat.le_of_ble_eq_true rfl, Nat.le_of_ble_eq_true rfl⟩) (g_preS hG) rfl rfl hl.1 rfl (lv_room (Nat.le_of_ble_eq_true rfl)) dX2_add_18 ⟨Nat.le_of_ble_eq_true rfl, Nat.le_of_ble_eq_true rfl⟩) hG (fun F_5 V_6 ws_ H locs hp hG => ?_)
    obtain ⟨rfl, rfl, rfl⟩ := hp
    have hG : gW X F V ((rr, oB 12 [.int (zI (wN w : Int)), .ref (ra f), .ref lt, .null]) :: Z) s H locs := hG
    obtain ⟨G1, hle_G1, hrr, hG⟩ := (show gW X F V ((rr, oB ciRev [.int (zI ((wN w : Nat) : Int)), va_rf (some (ra f)), .ref lt, .null]) :: Z) s _ _ from hG).freezeR
    have hG : gW X G1 V (Z) s _ _ := hG
    refine g_aastV hx hb hG hw1 7 rfl (rev_recv hG hrr) (fun _ _ h1 h2 => by cases h1.symm.trans h2; exact va_asg _ _) cls_ex (wN w) ⟨rfl, by omega, by omega⟩ dX2_add_21 (fun H locs (hG : gW X G1 (va_up V 5 (some (rv, aR (gT X 7) 16 (va_up fR (wN w) (some rr))))) (Z) s H locs) => ?_)
    have hw1 : (va_up V 5 (some (rv, aR (gT X 7) 16 (va_up fR (wN w) (some rr))))) 5 = some (rv, aR (gT X 7) 16 (va_up fR (wN w) (some rr))) := vus
    have hw2 : (va_up V 5 (some (rv, aR (gT X 7) 16 (va_up fR (wN w) (some rr))))) 6 = some (rk, aR (gT X 8) 16 fM) := (vun (by decide)).trans hw2
    have hw3 : (va_up V 5 (some (rv, aR (gT X 7) 16 (va_up fR (wN w) (some rr))))) 7 = some (st, aI (gT X 5) 16 fS) := (vun (by decide)).trans hw3
    have hw0 : (va_up V 5 (some (rv, aR (gT X 7) 16 (va_up fR (wN w) (some rr))))) 4 = some (wa, oB 2 [.int (zI (wN w : Int)), .int (zI (wM w : Int)), .int (zI (wRun w : Int)), .int (zI (wNeed w : Int)), .int (zI (wMar w : Int)), .int (wSeed w), .ref rv, .ref rk, .ref st]) := (vun (by decide)).trans hw0
    refine lv_aload_n hx hb dX2_add_22 rfl (lv_at hl 0 rfl) ?_
    refine lv_dup hx hb dX2_add_23 rfl ?_
    refine g_get (ci := 2) hx hb hts in_X2 hown hG (hG.vo hw0) rfl 0 (Nat.le_of_ble_eq_true rfl) (hts _ q333) (fun _ h9 => h9) rfl dX2_add_24 ?_
    refine lv_dup_x1 hx hb dX2_add_27 rfl rfl ?_
    refine lv_iconst (v := zI 1) hx hb dX2_add_28 (by decide +kernel) ?_
    refine g_iadd hx hb dX2_add_29 ?_
    refine g_putV (ci := 2) hx hb hts in_X2 tyX2 tyX2_ok nmX2 hown hG hw0 rfl 0 (Nat.le_of_ble_eq_true rfl) (hts _ q333) (fun _ h9 => h9) rfl (tyX2_ok 0 (Nat.le_of_ble_eq_true rfl)) rfl rfl (Nat.le_of_ble_eq_true rfl) dX2_add_30 (fun H locs (hG : gW X G1 (va_up (va_up V 5 (some (rv, aR (gT X 7) 16 (va_up fR (wN w) (some rr))))) 4 (some (wa, oB 2 [.int (zI ((wN w : Int) + 1)), .int (zI (wM w : Int)), .int (zI (wRun w : Int)), .int (zI (wNeed w : Int)), .int (zI (wMar w : Int)), .int (wSeed w), .ref rv, .ref rk, .ref st]))) (Z) s H locs) => ?_)
    have hw1 : (va_up (va_up V 5 (some (rv, aR (gT X 7) 16 (va_up fR (wN w) (some rr))))) 4 (some (wa, oB 2 [.int (zI ((wN w : Int) + 1)), .int (zI (wM w : Int)), .int (zI (wRun w : Int)), .int (zI (wNeed w : Int)), .int (zI (wMar w : Int)), .int (wSeed w), .ref rv, .ref rk, .ref st]))) 5 = some (rv, aR (gT X 7) 16 (va_up fR (wN w) (some rr))) := (vun (by decide)).trans hw1
    have hw2 : (va_up (va_up V 5 (some (rv, aR (gT X 7) 16 (va_up fR (wN w) (some rr))))) 4 (some (wa, oB 2 [.int (zI ((wN w : Int) + 1)), .int (zI (wM w : Int)), .int (zI (wRun w : Int)), .int (zI (wNeed w : Int)), .int (zI (wMar w : Int)), .int (wSeed w), .ref rv, .ref rk, .ref st]))) 6 = some (rk, aR (gT X 8) 16 fM) := (vun (by decide)).trans hw2
    have hw3 : (va_up (va_up V 5 (some (rv, aR (gT X 7) 16 (va_up fR (wN w) (some rr))))) 4 (some (wa, oB 2 [.int (zI ((wN w : Int) + 1)), .int (zI (wM w : Int)), .int (zI (wRun w : Int)), .int (zI (wNeed w : Int)), .int (zI (wMar w : Int)), .int (wSeed w), .ref rv, .ref rk, .ref st]))) 7 = some (st, aI (gT X 5) 16 fS) := (vun (by decide)).trans hw3
    have hw0 : (va_up (va_up V 5 (some (rv, aR (gT X 7) 16 (va_up fR (wN w) (some rr))))) 4 (some (wa, oB 2 [.int (zI ((wN w : Int) + 1)), .int (zI (wM w : Int)), .int (zI (wRun w : Int)), .int (zI (wNeed w : Int)), .int (zI (wMar w : Int)), .int (wSeed w), .ref rv, .ref rk, .ref st]))) 4 = some (wa, oB 2 [.int (zI ((wN w : Int) + 1)), .int (zI (wM w : Int)), .int (zI (wRun w : Int)), .int (zI (wNeed w : Int)), .int (zI (wMar w : Int)), .int (wSeed w), .ref rv, .ref rk, .ref st]) := vus
    exact g_iret hx hb hr hlocks hG (⟨hle_G1, rfl, va_up ra (wN w) rr, va_up la (wN w) lt, ⟨hw0, ⟨_, hw1, fun r hr => by (have hr : r < wN w + 1 := hr); by_cases e : r = wN w; (rw [e, va_up_self, va_up_self]); (rw [va_up_ne _ _ e, va_up_ne _ _ e]; exact hwR r (by omega))⟩, ⟨fM, hw2, hwM⟩, ⟨fS, hw3, hwS⟩, (hR.mono hle_G1).add hfo hK.fo hrr (htx.mono hle_G1), fun m hm => ((hMk m hm).mono hle_G1).ra (by have := (hK.rk hm).2.2.1; omega)⟩, vxB.rf.up (by omega) |>.up (by omega), rfl⟩) ⟨Nat.le_of_ble_eq_true rfl, Nat.le_of_ble_eq_true rfl⟩ dX2_add_33

set_option maxHeartbeats 4000000 in
theorem metX2_make {l : Launch} {X : gX} {F : gF} {V : gV} {Z : va_W} {kd k9 on pp qq : Nat} {an : Option Nat} {wa rv rk st : Nat} {ra la ma : Nat → Nat} {w : aW} (hW : xWd X F V 4 w wa rv rk st ra la ma) (hK : wOK w) (hM : wM w < 16) (hkd : kd ≤ 6) : Met l yX2_make (ws_ yX2_make cX2_make 7 (some FieldType.int)) ({ frames := 6, cells := 1, slots := 12, locals := 150 }) (gP X F V (Z) [.ref wa, .int (zI (kd : Int)), .int (zI (k9 : Int)), .ref (ra on), .int (zI (pp : Int)), .int (zI (qq : Int)), .int (zI (oI an))]) (gQi X (fun u G U ws => gLe F G ∧ u = zI (wM w : Int) ∧ ∃ ma9 : Nat → Nat, xWd X G U 4 (wMake w (kd, k9, on, pp, qq, an)) wa rv rk st ra la ma9 ∧ vxB 4 V U ∧ Z = ws)) 1 12 (gA X) := by
  refine Met.g (by decide) (Nat.le_of_ble_eq_true rfl) ?_
  intro p e s m below meth c ls hx hb hr hts hown hlocks hml hin hG hl
  have hl : lv_has ls 7 [(0, .ref wa), (1, .int (zI (kd : Int))), (2, .int (zI (k9 : Int))), (3, .ref (ra on)), (4, .int (zI (pp : Int))), (5, .int (zI (qq : Int))), (6, .int (zI (oI an)))] := hl
  have hMM := hK.m
  obtain ⟨hw0, ⟨fR, hw1, hwR⟩, ⟨fM, hw2, hwM⟩, ⟨fS, hw3, hwS⟩, hR, hMk⟩ := hW
  have hw1 : V 5 = some (rv, aR (gT X 7) 16 fR) := hw1
  have hw2 : V 6 = some (rk, aR (gT X 8) 16 fM) := hw2
  have hw3 : V 7 = some (st, aI (gT X 5) 16 fS) := hw3
  have hwE : V 4 = some (wa, xwE w rv rk st) := hw0
  refine lv_aload_n hx hb dX2_make_0 rfl (lv_at hl 0 rfl) ?_
  refine g_get (ci := 2) hx hb hts in_X2 hown hG (hG.vo hw0) rfl 7 (Nat.le_of_ble_eq_true rfl) (hts _ q350) (fun _ h9 => h9) rfl dX2_make_1 ?_
  refine lv_aload_n hx hb dX2_make_4 rfl (lv_at hl 0 rfl) ?_
  refine g_get (ci := 2) hx hb hts in_X2 hown hG (hG.vo hw0) rfl 1 (Nat.le_of_ble_eq_true rfl) (hts _ q335) (fun _ h9 => h9) rfl dX2_make_5 ?_
  refine lv_iload_n hx hb dX2_make_8 rfl (lv_at hl 1 rfl) ?_
  refine lv_aload_n hx hb dX2_make_9 rfl (lv_at hl 0 rfl) ?_
  refine g_get (ci := 2) hx hb hts in_X2 hown hG (hG.vo hw0) rfl 1 (Nat.le_of_ble_eq_true rfl) (hts _ q335) (fun _ h9 => h9) rfl dX2_make_10 ?_
  refine lv_iload_n hx hb dX2_make_13 rfl (lv_at hl 2 rfl) ?_
  refine lv_aload_n hx hb dX2_make_14 rfl (lv_at hl 3 rfl) ?_
  refine lv_iload hx hb dX2_make_15 (lv_at hl 4 rfl) ?_
  refine lv_iload hx hb dX2_make_17 (lv_at hl 5 rfl) ?_
  refine lv_iload hx hb dX2_make_19 (lv_at hl 6 rfl) ?_
  refine g_cr (va_runS (As := [.int (zI (kd : Int)), .int (zI (wM w : Int)), .int (zI (k9 : Int)), .ref (ra on), .int (zI (pp : Int)), .int (zI (qq : Int)), .int (zI (oI an))]) (rest := [.int (zI (wM w : Int)), .ref rk]) ⟨hx, hb, hml, hown, hts⟩ (metX0_ofKind hkd) (va_cwS 7 hts (lw_S q2051 q2052 q87 q2053) rfl rfl rfl (by decide +kernel) ⟨Nat.le_of_ble_eq_true rfl, Nat.le_of_ble_eq_true rfl⟩) (g_preS hG) rfl rfl hl.1 rfl (lv_room (Nat.le_of_ble_eq_true rfl)) dX2_make_21 ⟨Nat.le_of_ble_eq_true rfl, Nat.le_of_ble_eq_true rfl⟩) hG (fun rm F_1 V_2 ws_ H locs hp hG => ?_)
  obtain ⟨rfl, rfl, rfl⟩ := hp
  have hG : gW X F V ((rm, oB (14 + kd) [.int (zI (wM w : Int)), .int (zI (k9 : Int)), .ref (ra on), .int (zI (pp : Int)), .int (zI (qq : Int)), .int (zI (oI an))]) :: Z) s H locs := hG
  obtain ⟨G1, hle_G1, hrm, hG⟩ := hG.freeze
  have hG : gW X G1 V (Z) s _ _ := hG
  refine g_aastV hx hb hG hw2 8 rfl (rm_recv hG hkd hrm) (rm_asg hG hkd) cls_ex (wM w) ⟨rfl, by omega, by omega⟩ dX2_make_24 (fun H locs (hG : gW X G1 (va_up V 6 (some (rk, aR (gT X 8) 16 (va_up fM (wM w) (some rm))))) (Z) s H locs) => ?_)
  have hw1 : (va_up V 6 (some (rk, aR (gT X 8) 16 (va_up fM (wM w) (some rm))))) 5 = some (rv, aR (gT X 7) 16 fR) := (vun (by decide)).trans hw1
  have hw2 : (va_up V 6 (some (rk, aR (gT X 8) 16 (va_up fM (wM w) (some rm))))) 6 = some (rk, aR (gT X 8) 16 (va_up fM (wM w) (some rm))) := vus
  have hw3 : (va_up V 6 (some (rk, aR (gT X 8) 16 (va_up fM (wM w) (some rm))))) 7 = some (st, aI (gT X 5) 16 fS) := (vun (by decide)).trans hw3
  have hw0 : (va_up V 6 (some (rk, aR (gT X 8) 16 (va_up fM (wM w) (some rm))))) 4 = some (wa, oB 2 [.int (zI (wN w : Int)), .int (zI (wM w : Int)), .int (zI (wRun w : Int)), .int (zI (wNeed w : Int)), .int (zI (wMar w : Int)), .int (wSeed w), .ref rv, .ref rk, .ref st]) := (vun (by decide)).trans hw0
  refine lv_aload_n hx hb dX2_make_25 rfl (lv_at hl 0 rfl) ?_
  refine g_get (ci := 2) hx hb hts in_X2 hown hG (hG.vo hw0) rfl 8 (Nat.le_of_ble_eq_true rfl) (hts _ q352) (fun _ h9 => h9) rfl dX2_make_26 ?_
  refine lv_aload_n hx hb dX2_make_29 rfl (lv_at hl 0 rfl) ?_
  refine g_get (ci := 2) hx hb hts in_X2 hown hG (hG.vo hw0) rfl 1 (Nat.le_of_ble_eq_true rfl) (hts _ q335) (fun _ h9 => h9) rfl dX2_make_30 ?_
  refine lv_iconst (v := zI 0) hx hb dX2_make_33 (by decide +kernel) ?_
  refine g_zastV hx hb hG hw3 (wM w) ⟨rfl, by omega, by omega⟩ (y := (zI 0)) rfl dX2_make_34 (fun H locs (hG : gW X G1 (va_up (va_up V 6 (some (rk, aR (gT X 8) 16 (va_up fM (wM w) (some rm))))) 7 (some (st, aI (gT X 5) 16 (upd fS (wM w) (zI 0))))) (Z) s H locs) => ?_)
  have hw1 : (va_up (va_up V 6 (some (rk, aR (gT X 8) 16 (va_up fM (wM w) (some rm))))) 7 (some (st, aI (gT X 5) 16 (upd fS (wM w) (zI 0))))) 5 = some (rv, aR (gT X 7) 16 fR) := (vun (by decide)).trans hw1
  have hw2 : (va_up (va_up V 6 (some (rk, aR (gT X 8) 16 (va_up fM (wM w) (some rm))))) 7 (some (st, aI (gT X 5) 16 (upd fS (wM w) (zI 0))))) 6 = some (rk, aR (gT X 8) 16 (va_up fM (wM w) (some rm))) := (vun (by decide)).trans hw2
  have hw3 : (va_up (va_up V 6 (some (rk, aR (gT X 8) 16 (va_up fM (wM w) (some rm))))) 7 (some (st, aI (gT X 5) 16 (upd fS (wM w) (zI 0))))) 7 = some (st, aI (gT X 5) 16 (upd fS (wM w) (zI 0))) := vus
  have hw0 : (va_up (va_up V 6 (some (rk, aR (gT X 8) 16 (va_up fM (wM w) (some rm))))) 7 (some (st, aI (gT X 5) 16 (upd fS (wM w) (zI 0))))) 4 = some (wa, oB 2 [.int (zI (wN w : Int)), .int (zI (wM w : Int)), .int (zI (wRun w : Int)), .int (zI (wNeed w : Int)), .int (zI (wMar w : Int)), .int (wSeed w), .ref rv, .ref rk, .ref st]) := (vun (by decide)).trans hw0
  refine lv_aload_n hx hb dX2_make_35 rfl (lv_at hl 0 rfl) ?_
  refine lv_dup hx hb dX2_make_36 rfl ?_
  refine g_get (ci := 2) hx hb hts in_X2 hown hG (hG.vo hw0) rfl 1 (Nat.le_of_ble_eq_true rfl) (hts _ q335) (fun _ h9 => h9) rfl dX2_make_37 ?_
  refine lv_dup_x1 hx hb dX2_make_40 rfl rfl ?_
  refine lv_iconst (v := zI 1) hx hb dX2_make_41 (by decide +kernel) ?_
  refine g_iadd hx hb dX2_make_42 ?_
  refine g_putV (ci := 2) hx hb hts in_X2 tyX2 tyX2_ok nmX2 hown hG hw0 rfl 1 (Nat.le_of_ble_eq_true rfl) (hts _ q335) (fun _ h9 => h9) rfl (tyX2_ok 1 (Nat.le_of_ble_eq_true rfl)) rfl rfl (Nat.le_of_ble_eq_true rfl) dX2_make_43 (fun H locs (hG : gW X G1 (va_up (va_up (va_up V 6 (some (rk, aR (gT X 8) 16 (va_up fM (wM w) (some rm))))) 7 (some (st, aI (gT X 5) 16 (upd fS (wM w) (zI 0))))) 4 (some (wa, oB 2 [.int (zI (wN w : Int)), .int (zI ((wM w : Int) + 1)), .int (zI (wRun w : Int)), .int (zI (wNeed w : Int)), .int (zI (wMar w : Int)), .int (wSeed w), .ref rv, .ref rk, .ref st]))) (Z) s H locs) => ?_)
  have hw1 : (va_up (va_up (va_up V 6 (some (rk, aR (gT X 8) 16 (va_up fM (wM w) (some rm))))) 7 (some (st, aI (gT X 5) 16 (upd fS (wM w) (zI 0))))) 4 (some (wa, oB 2 [.int (zI (wN w : Int)), .int (zI ((wM w : Int) + 1)), .int (zI (wRun w : Int)), .int (zI (wNeed w : Int)), .int (zI (wMar w : Int)), .int (wSeed w), .ref rv, .ref rk, .ref st]))) 5 = some (rv, aR (gT X 7) 16 fR) := (vun (by decide)).trans hw1
  have hw2 : (va_up (va_up (va_up V 6 (some (rk, aR (gT X 8) 16 (va_up fM (wM w) (some rm))))) 7 (some (st, aI (gT X 5) 16 (upd fS (wM w) (zI 0))))) 4 (some (wa, oB 2 [.int (zI (wN w : Int)), .int (zI ((wM w : Int) + 1)), .int (zI (wRun w : Int)), .int (zI (wNeed w : Int)), .int (zI (wMar w : Int)), .int (wSeed w), .ref rv, .ref rk, .ref st]))) 6 = some (rk, aR (gT X 8) 16 (va_up fM (wM w) (some rm))) := (vun (by decide)).trans hw2
  have hw3 : (va_up (va_up (va_up V 6 (some (rk, aR (gT X 8) 16 (va_up fM (wM w) (some rm))))) 7 (some (st, aI (gT X 5) 16 (upd fS (wM w) (zI 0))))) 4 (some (wa, oB 2 [.int (zI (wN w : Int)), .int (zI ((wM w : Int) + 1)), .int (zI (wRun w : Int)), .int (zI (wNeed w : Int)), .int (zI (wMar w : Int)), .int (wSeed w), .ref rv, .ref rk, .ref st]))) 7 = some (st, aI (gT X 5) 16 (upd fS (wM w) (zI 0))) := (vun (by decide)).trans hw3
  have hw0 : (va_up (va_up (va_up V 6 (some (rk, aR (gT X 8) 16 (va_up fM (wM w) (some rm))))) 7 (some (st, aI (gT X 5) 16 (upd fS (wM w) (zI 0))))) 4 (some (wa, oB 2 [.int (zI (wN w : Int)), .int (zI ((wM w : Int) + 1)), .int (zI (wRun w : Int)), .int (zI (wNeed w : Int)), .int (zI (wMar w : Int)), .int (wSeed w), .ref rv, .ref rk, .ref st]))) 4 = some (wa, oB 2 [.int (zI (wN w : Int)), .int (zI ((wM w : Int) + 1)), .int (zI (wRun w : Int)), .int (zI (wNeed w : Int)), .int (zI (wMar w : Int)), .int (wSeed w), .ref rv, .ref rk, .ref st]) := vus
  exact g_iret hx hb hr hlocks hG (⟨hle_G1, rfl, va_up ma (wM w) rm, ⟨hw0, ⟨fR, hw1, hwR⟩, ⟨_, hw2, fun m hm => by (have hm : m < wM w + 1 := hm); by_cases e : m = wM w; (rw [e, va_up_self, va_up_self]); (rw [va_up_ne _ _ e, va_up_ne _ _ e]; exact hwM m (by omega))⟩, ⟨_, hw3, fun m hm => by (have hm : m < wM w + 1 := hm); show _ = zI (bI (va_up (wSt w) (wM w) false m)); by_cases e : m = wM w; (subst e; rw [va_up_self]; unfold upd; rw [if_pos rfl]; rfl); (rw [va_up_ne _ _ e]; unfold upd; rw [if_neg e]; exact hwS m (by omega))⟩, hR.mono hle_G1, fun m hm => by (have hm : m < wM w + 1 := hm); show isRmk G1 ra (va_up ma (wM w) rm m) (rKind (va_up (wRk w) (wM w) _ m)) m (va_up (wRk w) (wM w) _ m); by_cases e : m = wM w; (subst e; rw [va_up_self, va_up_self]; exact hrm); (rw [va_up_ne _ _ e, va_up_ne _ _ e]; exact (hMk m (by omega)).mono hle_G1)⟩, ((vxB.rf.up (by omega)).up (by omega)).up (by omega), rfl⟩) ⟨Nat.le_of_ble_eq_true rfl, Nat.le_of_ble_eq_true rfl⟩ dX2_make_46

