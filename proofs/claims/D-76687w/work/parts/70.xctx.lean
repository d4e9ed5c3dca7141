set_option maxRecDepth 100000
def lnO (X : gX) (F : gF) (o : Option Nat) (c : Option Ln) : Prop := match c with
  | none => o = none
  | some cs => ∃ a, o = some a ∧ isLine X F a cs
theorem lnO.mono {X : gX} {F G : gF} {o : Option Nat} {c : Option Ln} (h : lnO X F o c) (hl : gLe F G) : lnO X G o c := by
  cases c with
  | none => exact h
  | some cs => obtain ⟨a, h1, h2⟩ := h; exact ⟨a, h1, h2.mono hl⟩
/-- the line at a place; none out of the text -/
def lnAt (t : Tx) (i : Int) : Option Ln := if 0 ≤ i ∧ i < t.length then some (t.getD i.toNat []) else none
theorem lnO_at {X : gX} {F : gF} {t : Tx} {i : Int} {u : Option Nat} (h : ((i < 0 ∨ (t.length : Int) ≤ i) ∧ u = none) ∨ (0 ≤ i ∧ i < t.length ∧ ∃ a9 : Nat, u = some a9 ∧ isLine X F a9 (t.getD i.toNat []))) : lnO X F u (lnAt t i) := by
  unfold lnAt
  rcases h with ⟨h1, h2⟩ | ⟨h1, h2, h3⟩
  · rw [if_neg (by omega)]; exact h2
  · rw [if_pos ⟨h1, h2⟩]; exact h3
def slT (t : Tx) (p q : Nat) : Tx := (t.drop p).take (q - p + 1)
theorem slT_len {t : Tx} {p q : Nat} (h : p ≤ q ∧ q < t.length) : (slT t p q).length = q - p + 1 := by unfold slT; rw [List.length_take, List.length_drop]; omega
theorem slT_get {t : Tx} {p q i : Nat} (h : p ≤ q ∧ q < t.length) (hi : i < q - p + 1) : (slT t p q).getD i [] = t.getD (p + i) [] := by
  unfold slT; rw [gD_take _ hi, gD_drop]
/-- what stood about a span -/
def cxR (X : gX) (F : gF) (cl : Nat) (al be : Option Nat) (t : Tx) (p q : Nat) : Prop := isText X F cl (slT t p q) ∧ lnO X F al (lnAt t ((p : Int) - 1)) ∧ lnO X F be (lnAt t ((q : Int) + 1))
theorem cxR.mono {X : gX} {F G : gF} {cl p q : Nat} {al be : Option Nat} {t : Tx} (h : cxR X F cl al be t p q) (hl : gLe F G) : cxR X G cl al be t p q := ⟨h.1.mono hl, h.2.1.mono hl, h.2.2.mono hl⟩
theorem sl_text {X : gX} {F G : gF} {lt cl p q : Nat} {t : Tx} {f : Nat → Option Nat} (hl : gLe F G) (h1 : F.1 lt = some (aR (gT X 6) t.length f)) (h24 : t.length ≤ 24) (h3 : ∀ i cs, t[i]? = some cs → ∃ b, f i = some b ∧ isLine X F b cs) (hpq : p ≤ q ∧ q < t.length) {n : Nat} (hn : n = q - p + 1) (h : G.1 cl = some (aR (gT X 6) n (va_cpy f (fun _ => none) p 0 n))) : isText X G cl (slT t p q) := by
  subst hn
  refine ⟨va_cpy f (fun _ => none) p 0 (q - p + 1), by rw [slT_len hpq]; exact h, by rw [slT_len hpq]; omega, fun i cs hi => ?_⟩
  have hil : i < q - p + 1 := by have := (List.getElem?_eq_some_iff.mp hi).1; rw [slT_len hpq] at this; exact this
  have hg := slT_get hpq hil
  rw [List.getD_eq_getElem?_getD, hi] at hg
  obtain ⟨b, g1, g2⟩ := h3 (p + i) (t.getD (p + i) []) (gD_some (by omega))
  refine ⟨b, ?_, ?_⟩
  · show (if 0 ≤ i ∧ i < 0 + (q - p + 1) then f (p + (i - 0)) else none) = some b
    rw [if_pos (by omega), Nat.sub_zero]; exact g1
  · have e : cs = t.getD (p + i) [] := hg
    rw [e]; exact g2.mono hl
theorem line_any {X : gX} {F : gF} {V : gV} {ws : va_W} {s : State} {H : Heap} {locs : List Loc} (hG : gW X F V ws s H locs) {a : Nat} {cs : Ln} (h : isLine X F a cs) : va_Any "LineRemarks$Line" s H a := by
  obtain ⟨cell, h1, h2, h3⟩ := h.recv hG
  obtain ⟨kC, hkC, -⟩ := Vm.findClass_spec h3
  exact ⟨cell, h1, h2, ⟨kC, hkC⟩, fun comp hc => by cases h3.symm.trans hc; exact va_asg _ _⟩
set_option maxHeartbeats 4000000 in
theorem metX25_keep {l : Launch} {X : gX} {F : gF} {V : gV} {Z : va_W} {cx rv sp nn lt pp qq : Nat} {v0 v1 v2 : Value} {fo9 : Option Nat} {t : Tx} (hrv : F.2 rv = some (nn, fo9, lt)) (htx : isText X F lt t) (hpq : pp ≤ qq ∧ qq < t.length) : Met l yX25_keep (ws_ yX25_keep cX25_keep 3 none) ({ frames := 1, cells := 1, slots := 24, locals := 38 }) (gP X F V ((cx, oB 23 [v0, v1, v2]) :: (sp, oB 22 [.int (zI (pp : Int)), .int (zI (qq : Int))]) :: Z) [.ref cx, .ref rv, .ref sp]) (gQv X (fun G U ws => gLe F G ∧ V = U ∧ ∃ (cl : Nat) (al be : Option Nat), cxR X G cl al be t pp qq ∧ ((cx, oB 23 [.ref cl, va_rf al, va_rf be]) :: (sp, oB 22 [.int (zI (pp : Int)), .int (zI (qq : Int))]) :: Z) = ws)) 1 24 (gA X) := by
  refine Met.g (by decide) (Nat.le_of_ble_eq_true rfl) ?_
  intro p e s m below meth c ls hx hb hr hts hown hlocks hml hin hG hl
  have hl : lv_has ls 3 [(0, .ref cx), (1, .ref rv), (2, .ref sp)] := hl
  have htxA := htx
  obtain ⟨gt, hgt1, hgt2, hgt3⟩ := htx
  have hgtl := hgt2
  refine lv_aload_n hx hb dX25_keep_0 rfl (lv_at hl 0 rfl) ?_
  refine lv_aload_n hx hb dX25_keep_1 rfl (lv_at hl 2 rfl) ?_
  have hG : gW X F V ((sp, oB 22 [.int (zI (pp : Int)), .int (zI (qq : Int))]) :: (cx, oB 23 [v0, v1, v2]) :: Z) s _ _ := hG.pull 1 rfl rfl
  refine g_ci (va_runV (As := []) (rest := [.ref cx]) ⟨hx, hb, hml, hown, hts⟩ (metX24_length) (cwV 0 hts (lw_V q2386 q2387 q2388 q153 q2389) rfl rfl rfl (by decide +kernel) ⟨Nat.le_of_ble_eq_true rfl, Nat.le_of_ble_eq_true rfl⟩) (g_preV hG (g_recv hG (hG.at 0 rfl) (ci := 22) rfl)) rfl rfl hl.1 rfl (lv_room (Nat.le_of_ble_eq_true rfl)) dX25_keep_2 ⟨Nat.le_of_ble_eq_true rfl, Nat.le_of_ble_eq_true rfl⟩) hG (fun r_1 F_2 V_3 ws_ H locs hp hG => ?_)
  obtain ⟨rfl, rfl, rfl, rfl⟩ := hp
  have hG : gW X F V ((sp, oB 22 [.int (zI (pp : Int)), .int (zI (qq : Int))]) :: (cx, oB 23 [v0, v1, v2]) :: Z) s H locs := hG
  refine g_topz (y := ((qq - pp + 1 : Nat) : Int)) (by omega) ?_
  refine g_newq hx hb hown (hts _ q2318) (hG.1.2.1.2.1 "LineRemarks$Line" (by decide)) 6 rfl hG (N := (qq - pp + 1)) ⟨rfl, by omega⟩ ⟨by show _ ≤ 1; omega, by show _ ≤ 24; omega⟩ dX25_keep_5 (fun cl H (hG : gW X F V ((cl, aR (gT X 6) (qq - pp + 1) (fun _ => none)) :: (sp, oB 22 [.int (zI (pp : Int)), .int (zI (qq : Int))]) :: (cx, oB 23 [v0, v1, v2]) :: Z) s H _) => ?_)
  refine g_put (ci := 23) hx hb hts in_X25 tyX25 tyX25_ok nmX25 hown hG 2 rfl rfl 0 (Nat.le_of_ble_eq_true rfl) (hts _ q2319) (fun _ h9 => h9) rfl (tyX25_ok 0 (Nat.le_of_ble_eq_true rfl)) rfl rfl (Nat.le_of_ble_eq_true rfl) dX25_keep_8 (fun H locs (hG : gW X F V ((cl, aR (gT X 6) (qq - pp + 1) (fun _ => none)) :: (sp, oB 22 [.int (zI (pp : Int)), .int (zI (qq : Int))]) :: (cx, oB 23 [.ref cl, v1, v2]) :: Z) s H locs) => ?_)
  refine lv_aload_n hx hb dX25_keep_11 rfl (lv_at hl 1 rfl) ?_
  obtain ⟨vc_4, hrvc_4, hgvc_4⟩ := hG.rv hrv
  refine g_get (ci := 12) hx hb hts in_X14 hown hG hrvc_4 rfl 2 (Nat.le_of_ble_eq_true rfl) (hts _ q1726) (fun _ h9 => h9) rfl dX25_keep_12 ?_
  refine lv_aload_n hx hb dX25_keep_15 rfl (lv_at hl 2 rfl) ?_
  refine g_get (ci := 22) hx hb hts in_X24 hown hG (hG.at 1 rfl) rfl 0 (Nat.le_of_ble_eq_true rfl) (hts _ q2293) (fun _ h9 => h9) rfl dX25_keep_16 ?_
  refine lv_aload_n hx hb dX25_keep_19 rfl (lv_at hl 0 rfl) ?_
  refine g_get (ci := 23) hx hb hts in_X25 hown hG (hG.at 2 rfl) rfl 0 (Nat.le_of_ble_eq_true rfl) (hts _ q2319) (fun _ h9 => h9) rfl dX25_keep_20 ?_
  refine lv_iconst (v := zI 0) hx hb dX25_keep_23 (by decide +kernel) ?_
  refine lv_aload_n hx hb dX25_keep_24 rfl (lv_at hl 0 rfl) ?_
  refine g_get (ci := 23) hx hb hts in_X25 hown hG (hG.at 2 rfl) rfl 0 (Nat.le_of_ble_eq_true rfl) (hts _ q2319) (fun _ h9 => h9) rfl dX25_keep_25 ?_
  refine g_alen hx hb hG 6 rfl (hG.at 0 rfl) dX25_keep_28 ?_
  refine g_copyQ hx hb (hml.trans hl.1.symm) hown (hts _ q2390) (hts _ q676) (hts _ q675) (hts _ q117) hG 6 rfl (hG.fz hgt1) 0 rfl pp 0 (qq - pp + 1) ⟨rfl, rfl, rfl, by omega, by omega, by omega, by omega⟩ (fun i9 hi9 y9 hy9 => by obtain ⟨b9, g1, g2⟩ := hgt3 (pp + i9) _ (gD_some (by omega)); rw [g1] at hy9; cases hy9; exact line_any hG g2) ⟨Nat.le_of_ble_eq_true rfl, Nat.le_of_ble_eq_true rfl⟩ dX25_keep_29 (fun H locs (hG : gW X F V ((cl, aR (gT X 6) (qq - pp + 1) (va_cpy gt (fun _ => none) pp 0 (qq - pp + 1))) :: (sp, oB 22 [.int (zI (pp : Int)), .int (zI (qq : Int))]) :: (cx, oB 23 [.ref cl, v1, v2]) :: Z) s H locs) => ?_)
  obtain ⟨G1, hle_G1, hcl, hG⟩ := hG.freeze
  have hG : gW X G1 V ((sp, oB 22 [.int (zI (pp : Int)), .int (zI (qq : Int))]) :: (cx, oB 23 [.ref cl, v1, v2]) :: Z) s _ _ := hG
  refine lv_aload_n hx hb dX25_keep_32 rfl (lv_at hl 0 rfl) ?_
  refine lv_aload_n hx hb dX25_keep_33 rfl (lv_at hl 1 rfl) ?_
  refine lv_aload_n hx hb dX25_keep_34 rfl (lv_at hl 2 rfl) ?_
  refine g_get (ci := 22) hx hb hts in_X24 hown hG (hG.at 0 rfl) rfl 0 (Nat.le_of_ble_eq_true rfl) (hts _ q2293) (fun _ h9 => h9) rfl dX25_keep_35 ?_
  refine lv_iconst (v := zI 1) hx hb dX25_keep_38 (by decide +kernel) ?_
  refine g_isub hx hb dX25_keep_39 ?_
  refine g_cq (va_runV (As := [.int (zI ((pp : Int) - 1))]) (rest := [.ref cx]) ⟨hx, hb, hml, hown, hts⟩ (metX14_at (hle_G1.2 _ _ hrv) (htxA.mono hle_G1) (by omega)) (cwV 1 hts (lw_V q2391 q1755 q1756 q140 q1757) rfl rfl rfl (by decide +kernel) ⟨Nat.le_of_ble_eq_true rfl, Nat.le_of_ble_eq_true rfl⟩) (g_preV hG (rev_recv hG (hle_G1.2 _ _ hrv))) rfl rfl hl.1 rfl (lv_room (Nat.le_of_ble_eq_true rfl)) dX25_keep_40 ⟨by show _ ≤ 1; omega, by show _ ≤ 24; omega⟩) hG (fun r_5 F_6 V_7 ws_ H locs hp hG => ?_)
  obtain ⟨hat1, rfl, rfl, rfl⟩ := hp
  have hG : gW X G1 V ((sp, oB 22 [.int (zI (pp : Int)), .int (zI (qq : Int))]) :: (cx, oB 23 [.ref cl, v1, v2]) :: Z) s H locs := hG
  refine g_put (ci := 23) hx hb hts in_X25 tyX25 tyX25_ok nmX25 hown hG 1 rfl rfl 1 (Nat.le_of_ble_eq_true rfl) (hts _ q2321) (fun _ h9 => h9) rfl (tyX25_ok 1 (Nat.le_of_ble_eq_true rfl)) (va_rf_nar _ _) (va_rf_fit _ _) (Nat.le_of_ble_eq_true rfl) dX25_keep_43 (fun H locs (hG : gW X G1 V ((sp, oB 22 [.int (zI (pp : Int)), .int (zI (qq : Int))]) :: (cx, oB 23 [.ref cl, va_rf r_5, v2]) :: Z) s H locs) => ?_)
  refine lv_aload_n hx hb dX25_keep_46 rfl (lv_at hl 0 rfl) ?_
  refine lv_aload_n hx hb dX25_keep_47 rfl (lv_at hl 1 rfl) ?_
  refine lv_aload_n hx hb dX25_keep_48 rfl (lv_at hl 2 rfl) ?_
  refine g_get (ci := 22) hx hb hts in_X24 hown hG (hG.at 0 rfl) rfl 1 (Nat.le_of_ble_eq_true rfl) (hts _ q2302) (fun _ h9 => h9) rfl dX25_keep_49 ?_
  refine lv_iconst (v := zI 1) hx hb dX25_keep_52 (by decide +kernel) ?_
  refine g_iadd hx hb dX25_keep_53 ?_
  refine g_cq (va_runV (As := [.int (zI ((qq : Int) + 1))]) (rest := [.ref cx]) ⟨hx, hb, hml, hown, hts⟩ (metX14_at (hle_G1.2 _ _ hrv) (htxA.mono hle_G1) (by omega)) (cwV 1 hts (lw_V q2391 q1755 q1756 q140 q1757) rfl rfl rfl (by decide +kernel) ⟨Nat.le_of_ble_eq_true rfl, Nat.le_of_ble_eq_true rfl⟩) (g_preV hG (rev_recv hG (hle_G1.2 _ _ hrv))) rfl rfl hl.1 rfl (lv_room (Nat.le_of_ble_eq_true rfl)) dX25_keep_54 ⟨by show _ ≤ 1; omega, by show _ ≤ 24; omega⟩) hG (fun r_8 F_9 V_10 ws_ H locs hp hG => ?_)
  obtain ⟨hat2, rfl, rfl, rfl⟩ := hp
  have hG : gW X G1 V ((sp, oB 22 [.int (zI (pp : Int)), .int (zI (qq : Int))]) :: (cx, oB 23 [.ref cl, va_rf r_5, v2]) :: Z) s H locs := hG
  refine g_put (ci := 23) hx hb hts in_X25 tyX25 tyX25_ok nmX25 hown hG 1 rfl rfl 2 (Nat.le_of_ble_eq_true rfl) (hts _ q2322) (fun _ h9 => h9) rfl (tyX25_ok 2 (Nat.le_of_ble_eq_true rfl)) (va_rf_nar _ _) (va_rf_fit _ _) (Nat.le_of_ble_eq_true rfl) dX25_keep_57 (fun H locs (hG : gW X G1 V ((sp, oB 22 [.int (zI (pp : Int)), .int (zI (qq : Int))]) :: (cx, oB 23 [.ref cl, va_rf r_5, va_rf r_8]) :: Z) s H locs) => ?_)
  have hG : gW X G1 V ((cx, oB 23 [.ref cl, va_rf r_5, va_rf r_8]) :: (sp, oB 22 [.int (zI (pp : Int)), .int (zI (qq : Int))]) :: Z) s _ _ := hG.pull 1 rfl rfl
  exact g_vret hx hb hr hlocks hG (⟨hle_G1, rfl, cl, r_5, r_8, ⟨sl_text hle_G1 hgt1 hgt2 hgt3 hpq rfl hcl, lnO_at hat1, lnO_at hat2⟩, rfl⟩) ⟨by show _ ≤ 1; omega, by show _ ≤ 24; omega⟩ dX25_keep_60

