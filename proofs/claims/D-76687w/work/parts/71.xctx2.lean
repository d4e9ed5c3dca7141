set_option maxRecDepth 100000
def nbS (c d : Option Ln) : Nat := if c = d then 2 else 0
theorem nbS_le (c d : Option Ln) : nbS c d ≤ 2 := by unfold nbS; split <;> omega
theorem lnAt_n {t : Tx} {i : Int} (h : i < 0 ∨ (t.length : Int) ≤ i) : lnAt t i = none := by unfold lnAt; rw [if_neg (by omega)]
theorem lnAt_s {t : Tx} {i : Int} (n : Nat) (h : i = n ∧ n < t.length) : lnAt t i = some (t.getD n []) := by unfold lnAt; rw [if_pos (by omega), h.1, Int.toNat_natCast]
theorem nb_ah {tl tb : Tx} {lp s : Nat} (h1 : lp ≤ tl.length) (h2 : s ≤ tb.length) : nbS (lnAt tl ((lp : Int) - 1)) (lnAt tb ((s : Int) - 1)) = scAh tl tb lp s := by
  unfold nbS scAh
  rcases Nat.eq_zero_or_pos lp with rfl | hp <;> rcases Nat.eq_zero_or_pos s with rfl | hs
  · rw [lnAt_n (by omega), lnAt_n (by omega), if_pos rfl, if_pos ⟨Iff.rfl, Or.inl rfl⟩]
  · rw [lnAt_n (by omega), lnAt_s (s - 1) (by omega), if_neg (fun q => by cases q), if_neg (fun q => by have := q.1.mp rfl; omega)]
  · rw [lnAt_s (lp - 1) (by omega), lnAt_n (by omega), if_neg (fun q => by cases q), if_neg (fun q => by have := q.1.mpr rfl; omega)]
  · rw [lnAt_s (lp - 1) (by omega), lnAt_s (s - 1) (by omega)]
    by_cases h : tl.getD (lp - 1) [] = tb.getD (s - 1) []
    · rw [if_pos (by rw [h]), if_pos ⟨by omega, Or.inr h⟩]
    · rw [if_neg (fun q => h (Option.some.inj q)), if_neg (fun q => by rcases q.2 with q | q; omega; exact h q)]
theorem nb_be {tl tb : Tx} {lq e : Nat} (h1 : lq + 1 ≤ tl.length) (h2 : e ≤ tb.length) : nbS (lnAt tl ((lq : Int) + 1)) (lnAt tb (e : Int)) = scBe tl tb lq e := by
  unfold nbS scBe
  rcases Nat.lt_or_ge (lq + 1) tl.length with hp | hp <;> rcases Nat.lt_or_ge e tb.length with hs | hs
  · rw [lnAt_s (lq + 1) (by omega), lnAt_s e (by omega)]
    by_cases h : tl.getD (lq + 1) [] = tb.getD e []
    · rw [if_pos (by rw [h]), if_pos ⟨by omega, Or.inr h⟩]
    · rw [if_neg (fun q => h (Option.some.inj q)), if_neg (fun q => by rcases q.2 with q | q; omega; exact h q)]
  · rw [lnAt_s (lq + 1) (by omega), lnAt_n (by omega), if_neg (fun q => by cases q), if_neg (fun q => by have := q.1.mpr (by omega); omega)]
  · rw [lnAt_n (by omega), lnAt_s e (by omega), if_neg (fun q => by cases q), if_neg (fun q => by have := q.1.mp (by omega); omega)]
  · rw [lnAt_n (by omega), lnAt_n (by omega), if_pos rfl, if_pos ⟨by omega, Or.inl (by omega)⟩]
theorem scSum_1 {tl tb : Tx} {lp s k : Nat} (h : bI (alk tl tb (lp + k) (s + k)) ≠ 0) : scSum tl tb lp s (k + 1) = scSum tl tb lp s k + 3 := by
  rw [scSum, if_pos (alk_iff.mp (by cases hq : alk tl tb (lp + k) (s + k) with | true => rfl | false => (rw [hq] at h; exact absurd rfl h)))]
theorem scSum_0 {tl tb : Tx} {lp s k : Nat} (h : bI (alk tl tb (lp + k) (s + k)) = 0) : scSum tl tb lp s (k + 1) = scSum tl tb lp s k := by
  rw [scSum, if_neg (fun q => by rw [alk_iff.mpr q] at h; cases h)]; rfl
/-- the place of the best score -/
def lkX (t tb : Tx) (p q mar : Nat) : Option Nat := match bsS (sc t tb p q) (scN tb p q) with
  | none => none
  | some s => if bsC (sc t tb p q) s mar (scN tb p q) = true then some s else none
theorem lkX_n {t tb : Tx} {p q mar : Nat} (h : bsS (sc t tb p q) (scN tb p q) = none) : lkX t tb p q mar = none := by unfold lkX; rw [h]
theorem lkX_s {t tb : Tx} {p q mar s : Nat} (h : bsS (sc t tb p q) (scN tb p q) = some s) : lkX t tb p q mar = if bsC (sc t tb p q) s mar (scN tb p q) = true then some s else none := by unfold lkX; rw [h]
theorem bsC_no {f : Nat → Nat} {b mar s : Nat} (h1 : s ≠ b) (h2 : f b < f s + mar) : ∀ n, s < n → bsC f b mar n = false := by
  intro n
  induction n with
  | zero => intro h; omega
  | succ n ih =>
    intro h
    rw [bsC]
    rcases Nat.lt_or_ge s n with hs | hs
    · rw [ih hs]; rfl
    · have e : s = n := by omega
      subst e
      rw [decide_eq_false (by omega), Bool.and_false]
theorem bsC_yes {f : Nat → Nat} {b mar s : Nat} (h : bsC f b mar s = true) (h1 : s = b ∨ f s + mar ≤ f b) : bsC f b mar (s + 1) = true := by
  rw [bsC, h, decide_eq_true h1]; rfl
set_option maxHeartbeats 4000000 in
theorem metX25_neighbour {l : Launch} {X : gX} {F : gF} {V : gV} {Z : va_W} {oa ob : Option Nat} {ca cb : Option Ln} (ha : lnO X F oa ca) (hb9 : lnO X F ob cb) : Met l yX25_neighbour (ws_ yX25_neighbour cX25_neighbour 3 (some FieldType.int)) ({ frames := 1, cells := 0, slots := 0, locals := 22 }) (gP X F V (Z) [va_rf oa, va_rf ob]) (gQi X (fun u G U ws => u = zI (nbS ca cb : Nat) ∧ F = G ∧ V = U ∧ Z = ws)) 0 0 (gA X) := by
  refine Met.g (by decide) (by cases oa <;> cases ob <;> exact Nat.le_of_ble_eq_true rfl) ?_
  intro p e s m below meth c ls hx hb hr hts hown hlocks hml hin hG hl
  have hl : lv_has ls 3 [(0, va_rf oa), (1, va_rf ob)] := by cases oa <;> cases ob <;> exact hl
  rcases ca with _ | ca
  · rcases cb with _ | cb
    · have ha : oa = none := ha
      have hb9 : ob = none := hb9
      subst ha
      subst hb9
      have hl : lv_has ls 3 [(0, .null), (1, .null)] := hl
      refine lv_aload_nN hx hb dX25_neighbour_0 rfl (lv_at hl 0 rfl) ?_
      refine lv_ifnullN (tgt := 8) hx hb dX25_neighbour_1 (by decide) ?_
      refine lv_aload_nN hx hb dX25_neighbour_8 rfl (lv_at hl 0 rfl) ?_
      refine lv_aload_nN hx hb dX25_neighbour_9 rfl (lv_at hl 1 rfl) ?_
      refine lv_acmp_ne (rx := none) (ry := none) (tgt := 17) hx hb dX25_neighbour_10 (by decide) (fun h1 => ?_) (fun h1 => ?_)
      · exact absurd rfl h1
      · refine lv_iconst (v := zI 1) hx hb dX25_neighbour_13 (by decide +kernel) ?_
        refine lv_goto (tgt := 26) hx hb dX25_neighbour_14 (by decide) ?_
        refine lv_istore_n (lv' := [(2, .int (zI 1)), (0, .null), (1, .null)]) hx hb dX25_neighbour_26 rfl hl (by decide) rfl (fun ls hl => ?_)
        refine lv_iload_n hx hb dX25_neighbour_27 rfl (lv_at hl 0 rfl) ?_
        refine g_eq (tgt := 35) hx hb dX25_neighbour_28 (by decide) (by decide) (fun h2 => ?_) (fun h2 => ?_)
        · exfalso; omega
        · refine lv_iconst (v := zI 2) hx hb dX25_neighbour_31 (by decide +kernel) ?_
          refine lv_goto (tgt := 36) hx hb dX25_neighbour_32 (by decide) ?_
          exact g_iret hx hb hr hlocks hG (⟨congrArg zI (show (2 : Int) = ((nbS _ _ : Nat) : Int) from by unfold nbS; first | rw [if_pos rfl]; rfl | rw [if_neg (fun q => by cases q)]; rfl), rfl, rfl, rfl⟩) ⟨Nat.le_of_ble_eq_true rfl, Nat.le_of_ble_eq_true rfl⟩ dX25_neighbour_36
    · have ha : oa = none := ha
      obtain ⟨b, hb8, hb9⟩ := hb9
      subst ha
      subst hb8
      have hl : lv_has ls 3 [(0, .null), (1, .ref b)] := hl
      refine lv_aload_nN hx hb dX25_neighbour_0 rfl (lv_at hl 0 rfl) ?_
      refine lv_ifnullN (tgt := 8) hx hb dX25_neighbour_1 (by decide) ?_
      refine lv_aload_nN hx hb dX25_neighbour_8 rfl (lv_at hl 0 rfl) ?_
      refine lv_aload_n hx hb dX25_neighbour_9 rfl (lv_at hl 1 rfl) ?_
      refine lv_acmp_ne (rx := none) (ry := (some b)) (tgt := 17) hx hb dX25_neighbour_10 (by decide) (fun h1 => ?_) (fun h1 => ?_)
      · refine lv_iconst (v := zI 0) hx hb dX25_neighbour_17 (by decide +kernel) ?_
        refine lv_goto (tgt := 26) hx hb dX25_neighbour_18 (by decide) ?_
        refine lv_istore_n (lv' := [(2, .int (zI 0)), (0, .null), (1, .ref b)]) hx hb dX25_neighbour_26 rfl hl (by decide) rfl (fun ls hl => ?_)
        refine lv_iload_n hx hb dX25_neighbour_27 rfl (lv_at hl 0 rfl) ?_
        refine g_eq (tgt := 35) hx hb dX25_neighbour_28 (by decide) (by decide) (fun h2 => ?_) (fun h2 => ?_)
        · refine lv_iconst (v := zI 0) hx hb dX25_neighbour_35 (by decide +kernel) ?_
          exact g_iret hx hb hr hlocks hG (⟨congrArg zI (show (0 : Int) = ((nbS _ _ : Nat) : Int) from by unfold nbS; first | rw [if_pos rfl]; rfl | rw [if_neg (fun q => by cases q)]; rfl), rfl, rfl, rfl⟩) ⟨Nat.le_of_ble_eq_true rfl, Nat.le_of_ble_eq_true rfl⟩ dX25_neighbour_36
        · exfalso; omega
      · cases h1
  · rcases cb with _ | cb
    · have hb9 : ob = none := hb9
      obtain ⟨a, ha8, ha⟩ := ha
      subst hb9
      subst ha8
      have hl : lv_has ls 3 [(0, .ref a), (1, .null)] := hl
      refine lv_aload_n hx hb dX25_neighbour_0 rfl (lv_at hl 0 rfl) ?_
      refine lv_ifnull hx hb dX25_neighbour_1 ?_
      refine lv_aload_nN hx hb dX25_neighbour_4 rfl (lv_at hl 1 rfl) ?_
      refine lv_ifnonnullN hx hb dX25_neighbour_5 ?_
      refine lv_aload_n hx hb dX25_neighbour_8 rfl (lv_at hl 0 rfl) ?_
      refine lv_aload_nN hx hb dX25_neighbour_9 rfl (lv_at hl 1 rfl) ?_
      refine lv_acmp_ne (rx := (some a)) (ry := none) (tgt := 17) hx hb dX25_neighbour_10 (by decide) (fun h1 => ?_) (fun h1 => ?_)
      · refine lv_iconst (v := zI 0) hx hb dX25_neighbour_17 (by decide +kernel) ?_
        refine lv_goto (tgt := 26) hx hb dX25_neighbour_18 (by decide) ?_
        refine lv_istore_n (lv' := [(2, .int (zI 0)), (0, .ref a), (1, .null)]) hx hb dX25_neighbour_26 rfl hl (by decide) rfl (fun ls hl => ?_)
        refine lv_iload_n hx hb dX25_neighbour_27 rfl (lv_at hl 0 rfl) ?_
        refine g_eq (tgt := 35) hx hb dX25_neighbour_28 (by decide) (by decide) (fun h2 => ?_) (fun h2 => ?_)
        · refine lv_iconst (v := zI 0) hx hb dX25_neighbour_35 (by decide +kernel) ?_
          exact g_iret hx hb hr hlocks hG (⟨congrArg zI (show (0 : Int) = ((nbS _ _ : Nat) : Int) from by unfold nbS; first | rw [if_pos rfl]; rfl | rw [if_neg (fun q => by cases q)]; rfl), rfl, rfl, rfl⟩) ⟨Nat.le_of_ble_eq_true rfl, Nat.le_of_ble_eq_true rfl⟩ dX25_neighbour_36
        · exfalso; omega
      · cases h1
    · obtain ⟨b, hb8, hb9⟩ := hb9
      obtain ⟨a, ha8, ha⟩ := ha
      subst hb8
      subst ha8
      have hl : lv_has ls 3 [(0, .ref a), (1, .ref b)] := hl
      refine lv_aload_n hx hb dX25_neighbour_0 rfl (lv_at hl 0 rfl) ?_
      refine lv_ifnull hx hb dX25_neighbour_1 ?_
      refine lv_aload_n hx hb dX25_neighbour_4 rfl (lv_at hl 1 rfl) ?_
      refine lv_ifnonnull (tgt := 21) hx hb dX25_neighbour_5 (by decide) ?_
      refine lv_aload_n hx hb dX25_neighbour_21 rfl (lv_at hl 0 rfl) ?_
      refine lv_aload_n hx hb dX25_neighbour_22 rfl (lv_at hl 1 rfl) ?_
      refine g_ci (va_runV (As := [.ref b]) (rest := []) ⟨hx, hb, hml, hown, hts⟩ (metX13_isAlike ha hb9) (cwV 1 hts (lw_V q2461 q1823 q1824 q122 q1825) rfl rfl rfl (by decide +kernel) ⟨Nat.le_of_ble_eq_true rfl, Nat.le_of_ble_eq_true rfl⟩) (g_preV hG (ha.recv hG)) rfl rfl hl.1 rfl (lv_room (Nat.le_of_ble_eq_true rfl)) dX25_neighbour_23 ⟨Nat.le_of_ble_eq_true rfl, Nat.le_of_ble_eq_true rfl⟩) hG (fun r_1 F_2 V_3 ws_ H locs hp hG => ?_)
      obtain ⟨rfl, rfl, rfl, rfl⟩ := hp
      have hG : gW X F V (Z) s H locs := hG
      by_cases he : ca = cb
      · subst he
        refine g_topz (y := 1) (if_pos rfl) ?_
        refine lv_istore_n (lv' := [(2, .int (zI 1)), (0, .ref a), (1, .ref b)]) hx hb dX25_neighbour_26 rfl hl (by decide) rfl (fun ls hl => ?_)
        refine lv_iload_n hx hb dX25_neighbour_27 rfl (lv_at hl 0 rfl) ?_
        refine g_eq (tgt := 35) hx hb dX25_neighbour_28 (by decide) (by decide) (fun h2 => ?_) (fun h2 => ?_)
        · exfalso; omega
        · refine lv_iconst (v := zI 2) hx hb dX25_neighbour_31 (by decide +kernel) ?_
          refine lv_goto (tgt := 36) hx hb dX25_neighbour_32 (by decide) ?_
          exact g_iret hx hb hr hlocks hG (⟨congrArg zI (show (2 : Int) = ((nbS _ _ : Nat) : Int) from by unfold nbS; first | rw [if_pos rfl]; rfl | rw [if_neg (fun q => by cases q)]; rfl), rfl, rfl, rfl⟩) ⟨Nat.le_of_ble_eq_true rfl, Nat.le_of_ble_eq_true rfl⟩ dX25_neighbour_36
      · refine g_topz (y := 0) (if_neg he) ?_
        refine lv_istore_n (lv' := [(2, .int (zI 0)), (0, .ref a), (1, .ref b)]) hx hb dX25_neighbour_26 rfl hl (by decide) rfl (fun ls hl => ?_)
        refine lv_iload_n hx hb dX25_neighbour_27 rfl (lv_at hl 0 rfl) ?_
        refine g_eq (tgt := 35) hx hb dX25_neighbour_28 (by decide) (by decide) (fun h2 => ?_) (fun h2 => ?_)
        · refine lv_iconst (v := zI 0) hx hb dX25_neighbour_35 (by decide +kernel) ?_
          exact g_iret hx hb hr hlocks hG (⟨congrArg zI (show (0 : Int) = ((nbS _ _ : Nat) : Int) from by unfold nbS; rw [if_neg (fun q => he (Option.some.inj q))]; rfl), rfl, rfl, rfl⟩) ⟨Nat.le_of_ble_eq_true rfl, Nat.le_of_ble_eq_true rfl⟩ dX25_neighbour_36
        · exfalso; omega

set_option maxHeartbeats 4000000 in
theorem metX25_places {l : Launch} {X : gX} {F : gF} {V : gV} {Z : va_W} {cx rv nn lt cl pp qq : Nat} {al be fo9 : Option Nat} {t tb : Tx} (hrv : F.2 rv = some (nn, fo9, lt)) (htb : isText X F lt tb) (hcx : cxR X F cl al be t pp qq) (hpq : pp ≤ qq ∧ qq < t.length ∧ t.length ≤ 24) : Met l yX25_places (ws_ yX25_places cX25_places 2 (some FieldType.int)) ({ frames := 1, cells := 0, slots := 0, locals := 21 }) (gP X F V ((cx, oB 23 [.ref cl, va_rf al, va_rf be]) :: Z) [.ref cx, .ref rv]) (gQi X (fun u G U ws => u = zI (scN tb pp qq : Nat) ∧ F = G ∧ V = U ∧ ((cx, oB 23 [.ref cl, va_rf al, va_rf be]) :: Z) = ws)) 0 0 (gA X) := by
  refine Met.g (by decide) (Nat.le_of_ble_eq_true rfl) ?_
  intro p e s m below meth c ls hx hb hr hts hown hlocks hml hin hG hl
  have hl : lv_has ls 2 [(0, .ref cx), (1, .ref rv)] := hl
  have hpq2 : pp ≤ qq ∧ qq < t.length := ⟨hpq.1, hpq.2.1⟩
  obtain ⟨gc, hgc1, hgc2, hgc3⟩ := hcx.1
  rw [slT_len hpq2] at hgc1
  have htb24 := htb
  obtain ⟨gb, hgb1, hgb2, hgb3⟩ := htb
  have hgbl := hgb2
  have hgbl := hgb2
  refine lv_iconst (v := zI 0) hx hb dX25_places_0 (by decide +kernel) ?_
  refine lv_aload_n hx hb dX25_places_1 rfl (lv_at hl 1 rfl) ?_
  obtain ⟨vc_1, hrvc_1, hgvc_1⟩ := hG.rv hrv
  refine g_get (ci := 12) hx hb hts in_X14 hown hG hrvc_1 rfl 2 (Nat.le_of_ble_eq_true rfl) (hts _ q1726) (fun _ h9 => h9) rfl dX25_places_2 ?_
  refine g_alen hx hb hG 6 rfl (hG.fz hgb1) dX25_places_5 ?_
  refine lv_aload_n hx hb dX25_places_6 rfl (lv_at hl 0 rfl) ?_
  refine g_get (ci := 23) hx hb hts in_X25 hown hG (hG.at 0 rfl) rfl 0 (Nat.le_of_ble_eq_true rfl) (hts _ q2319) (fun _ h9 => h9) rfl dX25_places_7 ?_
  refine g_alen hx hb hG 6 rfl (hG.fz hgc1) dX25_places_10 ?_
  refine g_isub hx hb dX25_places_11 ?_
  refine lv_iconst (v := zI 1) hx hb dX25_places_12 (by decide +kernel) ?_
  refine g_iadd hx hb dX25_places_13 ?_
  refine g_max hx hb (hml.trans hl.1.symm) hts hown (hts _ q2453) ⟨Nat.le_of_ble_eq_true rfl, Nat.le_of_ble_eq_true rfl, Nat.le_of_ble_eq_true rfl, Nat.le_of_ble_eq_true rfl⟩ (by omega) dX25_places_14 ?_
  exact g_iret hx hb hr hlocks hG (⟨congrArg zI (show (max 0 _ : Int) = ((scN tb pp qq : Nat) : Int) from by unfold scN; omega), rfl, rfl, rfl⟩) ⟨Nat.le_of_ble_eq_true rfl, Nat.le_of_ble_eq_true rfl⟩ dX25_places_17

set_option maxHeartbeats 4000000 in
theorem metX25_score {l : Launch} {X : gX} {F : gF} {V : gV} {Z : va_W} {s0 cx rv nn lt cl pp qq : Nat} {al be fo9 : Option Nat} {t tb : Tx} (hrv : F.2 rv = some (nn, fo9, lt)) (htb : isText X F lt tb) (hcx : cxR X F cl al be t pp qq) (hpq : pp ≤ qq ∧ qq < t.length ∧ t.length ≤ 24) (hs9 : s0 + (qq - pp + 1) ≤ tb.length) : Met l yX25_score (ws_ yX25_score cX25_score 5 (some FieldType.int)) ({ frames := 2, cells := 0, slots := 0, locals := 44 }) (gP X F V ((cx, oB 23 [.ref cl, va_rf al, va_rf be]) :: Z) [.ref cx, .ref rv, .int (zI (s0 : Int))]) (gQi X (fun u G U ws => u = zI (sc t tb pp qq s0 : Nat) ∧ F = G ∧ V = U ∧ ((cx, oB 23 [.ref cl, va_rf al, va_rf be]) :: Z) = ws)) 0 0 (gA X) := by
  refine Met.g (by decide) (Nat.le_of_ble_eq_true rfl) ?_
  intro p e s m below meth c ls hx hb hr hts hown hlocks hml hin hG hl
  have hl : lv_has ls 5 [(0, .ref cx), (1, .ref rv), (2, .int (zI (s0 : Int)))] := hl
  have hpq2 : pp ≤ qq ∧ qq < t.length := ⟨hpq.1, hpq.2.1⟩
  obtain ⟨gc, hgc1, hgc2, hgc3⟩ := hcx.1
  rw [slT_len hpq2] at hgc1
  have htb24 := htb
  obtain ⟨gb, hgb1, hgb2, hgb3⟩ := htb
  have hgbl := hgb2
  have hnb1 := nbS_le (lnAt t ((pp : Int) - 1)) (lnAt tb ((s0 : Int) - 1))
  have hnb2 := nbS_le (lnAt t ((qq : Int) + 1)) (lnAt tb ((s0 : Int) + ((qq - pp + 1 : Nat) : Int)))
  refine lv_aload_n hx hb dX25_score_0 rfl (lv_at hl 0 rfl) ?_
  refine g_get (ci := 23) hx hb hts in_X25 hown hG (hG.at 0 rfl) rfl 1 (Nat.le_of_ble_eq_true rfl) (hts _ q2321) (fun _ h9 => h9) rfl dX25_score_1 ?_
  refine lv_aload_n hx hb dX25_score_4 rfl (lv_at hl 1 rfl) ?_
  refine lv_iload_n hx hb dX25_score_5 rfl (lv_at hl 2 rfl) ?_
  refine lv_iconst (v := zI 1) hx hb dX25_score_6 (by decide +kernel) ?_
  refine g_isub hx hb dX25_score_7 ?_
  refine g_cq (va_runV (As := [.int (zI ((s0 : Int) - 1))]) (rest := [va_rf al]) ⟨hx, hb, hml, hown, hts⟩ (metX14_at hrv htb24 (by omega)) (cwV 1 hts (lw_V q2391 q1755 q1756 q140 q1757) rfl rfl rfl (by decide +kernel) ⟨Nat.le_of_ble_eq_true rfl, Nat.le_of_ble_eq_true rfl⟩) (g_preV hG (rev_recv hG hrv)) rfl rfl hl.1 rfl (lv_room (by simp only [List.map, va_rf_cat]; exact Nat.le_of_ble_eq_true rfl)) dX25_score_8 ⟨Nat.le_of_ble_eq_true rfl, Nat.le_of_ble_eq_true rfl⟩) hG (fun r_1 F_2 V_3 ws_ H locs hp hG => ?_)
  obtain ⟨hat1, rfl, rfl, rfl⟩ := hp
  have hG : gW X F V ((cx, oB 23 [.ref cl, va_rf al, va_rf be]) :: Z) s H locs := hG
  refine g_ci (va_runS (As := [va_rf al, va_rf r_1]) (rest := []) ⟨hx, hb, hml, hown, hts⟩ (metX25_neighbour hcx.2.1 (lnO_at hat1)) (va_cwS 2 hts (lw_S q2458 q2459 q154 q2460) rfl rfl rfl (by decide +kernel) ⟨Nat.le_of_ble_eq_true rfl, Nat.le_of_ble_eq_true rfl⟩) (g_preS hG) rfl rfl hl.1 rfl (lv_room (Nat.le_of_ble_eq_true rfl)) dX25_score_11 ⟨Nat.le_of_ble_eq_true rfl, Nat.le_of_ble_eq_true rfl⟩) hG (fun r_4 F_5 V_6 ws_ H locs hp hG => ?_)
  obtain ⟨rfl, rfl, rfl, rfl⟩ := hp
  have hG : gW X F V ((cx, oB 23 [.ref cl, va_rf al, va_rf be]) :: Z) s H locs := hG
  refine lv_aload_n hx hb dX25_score_14 rfl (lv_at hl 0 rfl) ?_
  refine g_get (ci := 23) hx hb hts in_X25 hown hG (hG.at 0 rfl) rfl 2 (Nat.le_of_ble_eq_true rfl) (hts _ q2322) (fun _ h9 => h9) rfl dX25_score_15 ?_
  refine lv_aload_n hx hb dX25_score_18 rfl (lv_at hl 1 rfl) ?_
  refine lv_iload_n hx hb dX25_score_19 rfl (lv_at hl 2 rfl) ?_
  refine lv_aload_n hx hb dX25_score_20 rfl (lv_at hl 0 rfl) ?_
  refine g_get (ci := 23) hx hb hts in_X25 hown hG (hG.at 0 rfl) rfl 0 (Nat.le_of_ble_eq_true rfl) (hts _ q2319) (fun _ h9 => h9) rfl dX25_score_21 ?_
  refine g_alen hx hb hG 6 rfl (hG.fz hgc1) dX25_score_24 ?_
  refine g_iadd hx hb dX25_score_25 ?_
  refine g_cq (va_runV (As := [.int (zI ((s0 : Int) + ((qq - pp + 1) : Nat)))]) (rest := [va_rf be, .int (zI (nbS (lnAt t ((pp : Int) - 1)) (lnAt tb ((s0 : Int) - 1)) : Nat))]) ⟨hx, hb, hml, hown, hts⟩ (metX14_at hrv htb24 (by omega)) (cwV 1 hts (lw_V q2391 q1755 q1756 q140 q1757) rfl rfl rfl (by decide +kernel) ⟨Nat.le_of_ble_eq_true rfl, Nat.le_of_ble_eq_true rfl⟩) (g_preV hG (rev_recv hG hrv)) rfl rfl hl.1 rfl (lv_room (by simp only [List.map, va_rf_cat]; exact Nat.le_of_ble_eq_true rfl)) dX25_score_26 ⟨Nat.le_of_ble_eq_true rfl, Nat.le_of_ble_eq_true rfl⟩) hG (fun r_7 F_8 V_9 ws_ H locs hp hG => ?_)
  obtain ⟨hat2, rfl, rfl, rfl⟩ := hp
  have hG : gW X F V ((cx, oB 23 [.ref cl, va_rf al, va_rf be]) :: Z) s H locs := hG
  refine g_ci (va_runS (As := [va_rf be, va_rf r_7]) (rest := [.int (zI (nbS (lnAt t ((pp : Int) - 1)) (lnAt tb ((s0 : Int) - 1)) : Nat))]) ⟨hx, hb, hml, hown, hts⟩ (metX25_neighbour hcx.2.2 (lnO_at hat2)) (va_cwS 2 hts (lw_S q2458 q2459 q154 q2460) rfl rfl rfl (by decide +kernel) ⟨Nat.le_of_ble_eq_true rfl, Nat.le_of_ble_eq_true rfl⟩) (g_preS hG) rfl rfl hl.1 rfl (lv_room (Nat.le_of_ble_eq_true rfl)) dX25_score_29 ⟨Nat.le_of_ble_eq_true rfl, Nat.le_of_ble_eq_true rfl⟩) hG (fun r_10 F_11 V_12 ws_ H locs hp hG => ?_)
  obtain ⟨rfl, rfl, rfl, rfl⟩ := hp
  have hG : gW X F V ((cx, oB 23 [.ref cl, va_rf al, va_rf be]) :: Z) s H locs := hG
  refine g_iadd hx hb dX25_score_32 ?_
  have hah : nbS (lnAt t ((pp : Int) - 1)) (lnAt tb ((s0 : Int) - 1)) = scAh t tb pp s0 := nb_ah (by omega) (by omega)
  have hbe : nbS (lnAt t ((qq : Int) + 1)) (lnAt tb ((s0 : Int) + ((qq - pp + 1 : Nat) : Int))) = scBe t tb qq (s0 + (qq - pp + 1)) := nb_be (by omega) (by omega)
  refine g_topz (y := ((scSum t tb pp s0 0 + scAh t tb pp s0 + scBe t tb qq (s0 + (qq - pp + 1)) : Nat) : Int)) (by rw [hah, hbe]; show _ = ((0 + _ + _ : Nat) : Int); omega) ?_
  rw [hah] at hnb1
  rw [hbe] at hnb2
  refine lv_istore_n (lv' := [(3, .int (zI ((scSum t tb pp s0 0 + scAh t tb pp s0 + scBe t tb qq (s0 + (qq - pp + 1)) : Nat) : Int))), (0, .ref cx), (1, .ref rv), (2, .int (zI (s0 : Int)))]) hx hb dX25_score_33 rfl hl (by decide) rfl (fun ls hl => ?_)
  refine lv_iconst (v := zI 0) hx hb dX25_score_34 (by decide +kernel) ?_
  refine lv_istore (lv' := [(4, .int (zI 0)), (3, .int (zI ((scSum t tb pp s0 0 + scAh t tb pp s0 + scBe t tb qq (s0 + (qq - pp + 1)) : Nat) : Int))), (0, .ref cx), (1, .ref rv), (2, .int (zI (s0 : Int)))]) hx hb dX25_score_35 hl (by decide) rfl (fun ls hl => ?_)
  refine g_loop (fun mz H locs ls => ∃ (k : Nat), (k ≤ qq - pp + 1 ∧ mz = qq - pp + 1 - k) ∧ gW X F V ((cx, oB 23 [.ref cl, va_rf al, va_rf be]) :: Z) s H locs ∧ lv_has ls 5 [(0, .ref cx), (1, .ref rv), (2, .int (zI (s0 : Int))), (3, .int (zI ((scSum t tb pp s0 k + scAh t tb pp s0 + scBe t tb qq (s0 + (qq - pp + 1)) : Nat) : Int))), (4, .int (zI (k : Int)))]) (qq - pp + 1 - 0) ⟨0, ⟨by omega, rfl⟩, hG, (lv_sub hl [2, 3, 4, 1, 0] rfl)⟩ (fun mz ihA H locs ls hI => ?_)
  obtain ⟨k, ⟨hk, hmz⟩, hG, hl⟩ := hI
  have hsm := scSum_le t tb pp s0 k
  refine lv_iload hx hb dX25_score_37 (lv_at hl 4 rfl) ?_
  refine lv_aload_n hx hb dX25_score_39 rfl (lv_at hl 0 rfl) ?_
  refine g_get (ci := 23) hx hb hts in_X25 hown hG (hG.at 0 rfl) rfl 0 (Nat.le_of_ble_eq_true rfl) (hts _ q2319) (fun _ h9 => h9) rfl dX25_score_40 ?_
  refine g_alen hx hb hG 6 rfl (hG.fz hgc1) dX25_score_43 ?_
  refine g_cge (tgt := 83) hx hb dX25_score_44 (by decide) (by omega) (fun h1 => ?_) (fun h1 => ?_)
  · have hke : k = qq - pp + 1 := by omega
    subst hke
    refine lv_iload_n hx hb dX25_score_83 rfl (lv_at hl 3 rfl) ?_
    exact g_iret hx hb hr hlocks hG (⟨rfl, rfl, rfl, rfl⟩) ⟨Nat.le_of_ble_eq_true rfl, Nat.le_of_ble_eq_true rfl⟩ dX25_score_84
  · refine lv_iload_n hx hb dX25_score_47 rfl (lv_at hl 3 rfl) ?_
    refine lv_aload_n hx hb dX25_score_48 rfl (lv_at hl 0 rfl) ?_
    refine g_get (ci := 23) hx hb hts in_X25 hown hG (hG.at 0 rfl) rfl 0 (Nat.le_of_ble_eq_true rfl) (hts _ q2319) (fun _ h9 => h9) rfl dX25_score_49 ?_
    refine lv_iload hx hb dX25_score_52 (lv_at hl 4 rfl) ?_
    obtain ⟨la, hla1, hla2⟩ := hgc3 k ((slT t pp qq).getD k []) (gD_some (by rw [slT_len hpq2]; omega))
    refine g_aald hx hb hG 6 rfl rfl (hG.fz hgc1) k ⟨rfl, by omega, by omega⟩ (v := .ref la) (congrArg va_rf hla1) dX25_score_54 ?_
    rw [slT_get hpq2 (by omega)] at hla2
    refine lv_aload_n hx hb dX25_score_55 rfl (lv_at hl 1 rfl) ?_
    obtain ⟨vc_13, hrvc_13, hgvc_13⟩ := hG.rv hrv
    refine g_get (ci := 12) hx hb hts in_X14 hown hG hrvc_13 rfl 2 (Nat.le_of_ble_eq_true rfl) (hts _ q1726) (fun _ h9 => h9) rfl dX25_score_56 ?_
    refine lv_iload_n hx hb dX25_score_59 rfl (lv_at hl 2 rfl) ?_
    refine lv_iload hx hb dX25_score_60 (lv_at hl 4 rfl) ?_
    refine g_iadd hx hb dX25_score_62 ?_
    obtain ⟨lb, hlb1, hlb2⟩ := hgb3 (s0 + k) (tb.getD (s0 + k) []) (gD_some (by omega))
    refine g_aald hx hb hG 6 rfl rfl (hG.fz hgb1) (s0 + k) ⟨rfl, by omega, by omega⟩ (v := .ref lb) (congrArg va_rf hlb1) dX25_score_63 ?_
    refine g_ci (va_runV (As := [.ref lb]) (rest := [.int (zI ((scSum t tb pp s0 k + scAh t tb pp s0 + scBe t tb qq (s0 + (qq - pp + 1)) : Nat) : Int))]) ⟨hx, hb, hml, hown, hts⟩ (metX13_isAlike hla2 hlb2) (cwV 1 hts (lw_V q2461 q1823 q1824 q122 q1825) rfl rfl rfl (by decide +kernel) ⟨Nat.le_of_ble_eq_true rfl, Nat.le_of_ble_eq_true rfl⟩) (g_preV hG (hla2.recv hG)) rfl rfl hl.1 rfl (lv_room (Nat.le_of_ble_eq_true rfl)) dX25_score_64 ⟨Nat.le_of_ble_eq_true rfl, Nat.le_of_ble_eq_true rfl⟩) hG (fun r_14 F_15 V_16 ws_ H locs hp hG => ?_)
    obtain ⟨rfl, rfl, rfl, rfl⟩ := hp
    have hG : gW X F V ((cx, oB 23 [.ref cl, va_rf al, va_rf be]) :: Z) s H locs := hG
    refine g_topz (y := bI (alk t tb (pp + k) (s0 + k))) alk_z ?_
    refine g_eq (tgt := 74) hx hb dX25_score_67 (by decide) (by have := bI_R (alk t tb (pp + k) (s0 + k)); omega) (fun h2 => ?_) (fun h2 => ?_)
    · refine lv_iconst (v := zI 0) hx hb dX25_score_74 (by decide +kernel) ?_
      refine g_iadd hx hb dX25_score_75 ?_
      refine lv_istore_n (lv' := [(3, .int (zI (((scSum t tb pp s0 k + scAh t tb pp s0 + scBe t tb qq (s0 + (qq - pp + 1)) : Nat) : Int) + 0))), (0, .ref cx), (1, .ref rv), (2, .int (zI (s0 : Int))), (4, .int (zI (k : Int)))]) hx hb dX25_score_76 rfl hl (by decide) rfl (fun ls hl => ?_)
      refine lv_iinc (v := zI ((k : Int) + 1 : Int)) (lv' := [(4, .int (zI ((k : Int) + 1 : Int))), (3, .int (zI (((scSum t tb pp s0 k + scAh t tb pp s0 + scBe t tb qq (s0 + (qq - pp + 1)) : Nat) : Int) + 0))), (0, .ref cx), (1, .ref rv), (2, .int (zI (s0 : Int)))]) hx hb dX25_score_77 hl (k := 4) rfl ((zI_add _ _).trans (congrArg zI (by omega))) (by decide) rfl (fun ls hl => ?_)
      refine lv_goto (tgt := 37) hx hb dX25_score_80 (by decide) ?_
      have hl : lv_has ls 5 [(4, .int (zI ((k + 1 : Nat) : Int))), (3, .int (zI ((scSum t tb pp s0 (k + 1) + scAh t tb pp s0 + scBe t tb qq (s0 + (qq - pp + 1)) : Nat) : Int))), (0, .ref cx), (1, .ref rv), (2, .int (zI (s0 : Int)))] := by rw [scSum_0 h2]; have e9 : (((scSum t tb pp s0 k + scAh t tb pp s0 + scBe t tb qq (s0 + (qq - pp + 1)) : Nat) : Int) + 0 : Int) = ((scSum t tb pp s0 k + scAh t tb pp s0 + scBe t tb qq (s0 + (qq - pp + 1)) : Nat) : Int) := (by omega); rw [e9] at hl; exact hl
      exact ihA (qq - pp + 1 - (k + 1)) (by omega) H locs ls ⟨(k + 1), ⟨by omega, rfl⟩, hG, (lv_sub hl [2, 3, 4, 1, 0] rfl)⟩
    · refine lv_iconst (v := zI 3) hx hb dX25_score_70 (by decide +kernel) ?_
      refine lv_goto (tgt := 75) hx hb dX25_score_71 (by decide) ?_
      refine g_iadd hx hb dX25_score_75 ?_
      refine lv_istore_n (lv' := [(3, .int (zI (((scSum t tb pp s0 k + scAh t tb pp s0 + scBe t tb qq (s0 + (qq - pp + 1)) : Nat) : Int) + 3))), (0, .ref cx), (1, .ref rv), (2, .int (zI (s0 : Int))), (4, .int (zI (k : Int)))]) hx hb dX25_score_76 rfl hl (by decide) rfl (fun ls hl => ?_)
      refine lv_iinc (v := zI ((k : Int) + 1 : Int)) (lv' := [(4, .int (zI ((k : Int) + 1 : Int))), (3, .int (zI (((scSum t tb pp s0 k + scAh t tb pp s0 + scBe t tb qq (s0 + (qq - pp + 1)) : Nat) : Int) + 3))), (0, .ref cx), (1, .ref rv), (2, .int (zI (s0 : Int)))]) hx hb dX25_score_77 hl (k := 4) rfl ((zI_add _ _).trans (congrArg zI (by omega))) (by decide) rfl (fun ls hl => ?_)
      refine lv_goto (tgt := 37) hx hb dX25_score_80 (by decide) ?_
      have hl : lv_has ls 5 [(4, .int (zI ((k + 1 : Nat) : Int))), (3, .int (zI ((scSum t tb pp s0 (k + 1) + scAh t tb pp s0 + scBe t tb qq (s0 + (qq - pp + 1)) : Nat) : Int))), (0, .ref cx), (1, .ref rv), (2, .int (zI (s0 : Int)))] := by rw [scSum_1 h2]; have e9 : (((scSum t tb pp s0 k + scAh t tb pp s0 + scBe t tb qq (s0 + (qq - pp + 1)) : Nat) : Int) + 3 : Int) = ((scSum t tb pp s0 k + 3 + scAh t tb pp s0 + scBe t tb qq (s0 + (qq - pp + 1)) : Nat) : Int) := (by omega); rw [e9] at hl; exact hl
      exact ihA (qq - pp + 1 - (k + 1)) (by omega) H locs ls ⟨(k + 1), ⟨by omega, rfl⟩, hG, (lv_sub hl [2, 3, 4, 1, 0] rfl)⟩

set_option maxHeartbeats 4000000 in
theorem metX25_best {l : Launch} {X : gX} {F : gF} {V : gV} {Z : va_W} {mr cx rv nn lt cl pp qq : Nat} {al be fo9 : Option Nat} {t tb : Tx} (hrv : F.2 rv = some (nn, fo9, lt)) (htb : isText X F lt tb) (hcx : cxR X F cl al be t pp qq) (hpq : pp ≤ qq ∧ qq < t.length ∧ t.length ≤ 24) (hmr : mr ≤ 20) : Met l yX25_best (ws_ yX25_best cX25_best 7 (some FieldType.int)) ({ frames := 3, cells := 0, slots := 0, locals := 68 }) (gP X F V ((cx, oB 23 [.ref cl, va_rf al, va_rf be]) :: Z) [.ref cx, .ref rv, .int (zI (mr : Int))]) (gQi X (fun u G U ws => u = zI (oI (lkX t tb pp qq mr)) ∧ F = G ∧ V = U ∧ ((cx, oB 23 [.ref cl, va_rf al, va_rf be]) :: Z) = ws)) 0 0 (gA X) := by
  refine Met.g (by decide) (Nat.le_of_ble_eq_true rfl) ?_
  intro p e s m below meth c ls hx hb hr hts hown hlocks hml hin hG hl
  have hl : lv_has ls 7 [(0, .ref cx), (1, .ref rv), (2, .int (zI (mr : Int)))] := hl
  have hpq2 : pp ≤ qq ∧ qq < t.length := ⟨hpq.1, hpq.2.1⟩
  obtain ⟨gc, hgc1, hgc2, hgc3⟩ := hcx.1
  rw [slT_len hpq2] at hgc1
  have htb24 := htb
  obtain ⟨gb, hgb1, hgb2, hgb3⟩ := htb
  have hgbl := hgb2
  have hgbl := hgb2
  have hFR : ∀ s, (sc t tb pp qq) s ≤ 76 := fun s => by have := sc_le (tl := t) (tb := tb) (lp := pp) (lq := qq) (s := s); omega
  have hN24 : (scN tb pp qq) ≤ 24 ∧ (scN tb pp qq) = tb.length - (qq - pp) := ⟨by unfold scN; omega, rfl⟩
  refine lv_iconst (v := zI (-1)) hx hb dX25_best_0 (by decide +kernel) ?_
  refine lv_istore_n (lv' := [(3, .int (zI (-1))), (0, .ref cx), (1, .ref rv), (2, .int (zI (mr : Int)))]) hx hb dX25_best_1 rfl hl (by decide) rfl (fun ls hl => ?_)
  refine lv_iconst (v := zI (-1)) hx hb dX25_best_2 (by decide +kernel) ?_
  refine lv_istore (lv' := [(4, .int (zI (-1))), (3, .int (zI (-1))), (0, .ref cx), (1, .ref rv), (2, .int (zI (mr : Int)))]) hx hb dX25_best_3 hl (by decide) rfl (fun ls hl => ?_)
  refine lv_iconst (v := zI 0) hx hb dX25_best_5 (by decide +kernel) ?_
  refine lv_istore (lv' := [(5, .int (zI 0)), (4, .int (zI (-1))), (3, .int (zI (-1))), (0, .ref cx), (1, .ref rv), (2, .int (zI (mr : Int)))]) hx hb dX25_best_6 hl (by decide) rfl (fun ls hl => ?_)
  refine g_loop (fun mz H locs ls => ∃ (v : Nat), (v ≤ (scN tb pp qq) ∧ mz = (scN tb pp qq) - v) ∧ gW X F V ((cx, oB 23 [.ref cl, va_rf al, va_rf be]) :: Z) s H locs ∧ lv_has ls 7 [(0, .ref cx), (1, .ref rv), (2, .int (zI (mr : Int))), (3, .int (zI (oI (bsS (sc t tb pp qq) v)))), (4, .int (zI (bsV (sc t tb pp qq) v))), (5, .int (zI (v : Int)))]) ((scN tb pp qq) - 0) ⟨0, ⟨by omega, rfl⟩, hG, (lv_sub hl [3, 4, 5, 2, 1, 0] rfl)⟩ (fun mz ihA H locs ls hI => ?_)
  obtain ⟨v, ⟨hv, hmz⟩, hG, hl⟩ := hI
  have hbv := bsV_R hFR v
  refine lv_iload hx hb dX25_best_8 (lv_at hl 5 rfl) ?_
  refine lv_aload_n hx hb dX25_best_10 rfl (lv_at hl 0 rfl) ?_
  refine lv_aload_n hx hb dX25_best_11 rfl (lv_at hl 1 rfl) ?_
  refine g_ci (va_runV (As := [.ref rv]) (rest := [.int (zI (v : Int))]) ⟨hx, hb, hml, hown, hts⟩ (metX25_places hrv htb24 hcx hpq) (cwV 1 hts (lw_V q2449 q2450 q2451 q154 q2452) rfl rfl rfl (by decide +kernel) ⟨Nat.le_of_ble_eq_true rfl, Nat.le_of_ble_eq_true rfl⟩) (g_preV hG (g_recv hG (hG.at 0 rfl) (ci := 23) rfl)) rfl rfl hl.1 rfl (lv_room (Nat.le_of_ble_eq_true rfl)) dX25_best_12 ⟨Nat.le_of_ble_eq_true rfl, Nat.le_of_ble_eq_true rfl⟩) hG (fun r_1 F_2 V_3 ws_ H locs hp hG => ?_)
  obtain ⟨rfl, rfl, rfl, rfl⟩ := hp
  have hG : gW X F V ((cx, oB 23 [.ref cl, va_rf al, va_rf be]) :: Z) s H locs := hG
  refine g_cge (tgt := 56) hx hb dX25_best_15 (by decide) (by omega) (fun h1 => ?_) (fun h1 => ?_)
  · have hvN : v = (scN tb pp qq) := by omega
    subst hvN
    refine lv_iconst (v := zI 0) hx hb dX25_best_56 (by decide +kernel) ?_
    refine lv_istore (lv' := [(5, .int (zI 0)), (0, .ref cx), (1, .ref rv), (2, .int (zI (mr : Int))), (3, .int (zI (oI (bsS (sc t tb pp qq) (scN tb pp qq))))), (4, .int (zI (bsV (sc t tb pp qq) (scN tb pp qq))))]) hx hb dX25_best_57 hl (by decide) rfl (fun ls hl => ?_)
    rcases hbs : bsS (sc t tb pp qq) (scN tb pp qq) with _ | b
    · have hN0 := (bsS_none _).mp hbs
      have hl : lv_has ls 7 [(5, .int (zI 0)), (0, .ref cx), (1, .ref rv), (2, .int (zI (mr : Int))), (3, .int (zI (-1))), (4, .int (zI (bsV (sc t tb pp qq) (scN tb pp qq))))] := by rw [hbs] at hl; exact hl
      refine lv_iload hx hb dX25_best_59 (lv_at hl 0 rfl) ?_
      refine lv_aload_n hx hb dX25_best_61 rfl (lv_at hl 1 rfl) ?_
      refine lv_aload_n hx hb dX25_best_62 rfl (lv_at hl 2 rfl) ?_
      refine g_ci (va_runV (As := [.ref rv]) (rest := [.int (zI 0)]) ⟨hx, hb, hml, hown, hts⟩ (metX25_places hrv htb24 hcx hpq) (cwV 1 hts (lw_V q2449 q2450 q2451 q154 q2452) rfl rfl rfl (by decide +kernel) ⟨Nat.le_of_ble_eq_true rfl, Nat.le_of_ble_eq_true rfl⟩) (g_preV hG (g_recv hG (hG.at 0 rfl) (ci := 23) rfl)) rfl rfl hl.1 rfl (lv_room (Nat.le_of_ble_eq_true rfl)) dX25_best_63 ⟨Nat.le_of_ble_eq_true rfl, Nat.le_of_ble_eq_true rfl⟩) hG (fun r_4 F_5 V_6 ws_ H locs hp hG => ?_)
      obtain ⟨rfl, rfl, rfl, rfl⟩ := hp
      have hG : gW X F V ((cx, oB 23 [.ref cl, va_rf al, va_rf be]) :: Z) s H locs := hG
      refine g_cge (tgt := 103) hx hb dX25_best_66 (by decide) (by omega) (fun h3 => ?_) (fun h3 => ?_)
      · refine lv_iload_n hx hb dX25_best_103 rfl (lv_at hl 4 rfl) ?_
        exact g_iret hx hb hr hlocks hG (⟨by rw [lkX_n hbs]; rfl, rfl, rfl, rfl⟩) ⟨Nat.le_of_ble_eq_true rfl, Nat.le_of_ble_eq_true rfl⟩ dX25_best_104
      · exfalso; omega
    · have hbN := bsS_some _ _ hbs
      have hVb : bsV (sc t tb pp qq) (scN tb pp qq) = ((sc t tb pp qq) b : Nat) := by unfold bsV; rw [hbs]
      have hFb := hFR b
      have hl : lv_has ls 7 [(5, .int (zI 0)), (0, .ref cx), (1, .ref rv), (2, .int (zI (mr : Int))), (3, .int (zI (b : Int))), (4, .int (zI ((sc t tb pp qq) b : Nat)))] := by rw [hbs, hVb] at hl; exact hl
      refine g_loop (fun mz H locs ls => ∃ (v : Nat), (v ≤ (scN tb pp qq) ∧ mz = (scN tb pp qq) - v ∧ bsC (sc t tb pp qq) b mr v = true) ∧ gW X F V ((cx, oB 23 [.ref cl, va_rf al, va_rf be]) :: Z) s H locs ∧ lv_has ls 7 [(0, .ref cx), (1, .ref rv), (2, .int (zI (mr : Int))), (3, .int (zI (b : Int))), (4, .int (zI ((sc t tb pp qq) b : Nat))), (5, .int (zI (v : Int)))]) ((scN tb pp qq) - 0) ⟨0, ⟨by omega, rfl, rfl⟩, hG, (lv_sub hl [1, 2, 3, 4, 5, 0] rfl)⟩ (fun mz ihB H locs ls hI => ?_)
      obtain ⟨v, ⟨hv, hmz, hC⟩, hG, hl⟩ := hI
      refine lv_iload hx hb dX25_best_59 (lv_at hl 5 rfl) ?_
      refine lv_aload_n hx hb dX25_best_61 rfl (lv_at hl 0 rfl) ?_
      refine lv_aload_n hx hb dX25_best_62 rfl (lv_at hl 1 rfl) ?_
      refine g_ci (va_runV (As := [.ref rv]) (rest := [.int (zI (v : Int))]) ⟨hx, hb, hml, hown, hts⟩ (metX25_places hrv htb24 hcx hpq) (cwV 1 hts (lw_V q2449 q2450 q2451 q154 q2452) rfl rfl rfl (by decide +kernel) ⟨Nat.le_of_ble_eq_true rfl, Nat.le_of_ble_eq_true rfl⟩) (g_preV hG (g_recv hG (hG.at 0 rfl) (ci := 23) rfl)) rfl rfl hl.1 rfl (lv_room (Nat.le_of_ble_eq_true rfl)) dX25_best_63 ⟨Nat.le_of_ble_eq_true rfl, Nat.le_of_ble_eq_true rfl⟩) hG (fun r_7 F_8 V_9 ws_ H locs hp hG => ?_)
      obtain ⟨rfl, rfl, rfl, rfl⟩ := hp
      have hG : gW X F V ((cx, oB 23 [.ref cl, va_rf al, va_rf be]) :: Z) s H locs := hG
      refine g_cge (tgt := 103) hx hb dX25_best_66 (by decide) (by omega) (fun h3 => ?_) (fun h3 => ?_)
      · have hvN : v = (scN tb pp qq) := by omega
        subst hvN
        refine lv_iload_n hx hb dX25_best_103 rfl (lv_at hl 3 rfl) ?_
        exact g_iret hx hb hr hlocks hG (⟨by rw [lkX_s hbs, if_pos hC]; rfl, rfl, rfl, rfl⟩) ⟨Nat.le_of_ble_eq_true rfl, Nat.le_of_ble_eq_true rfl⟩ dX25_best_104
      · refine lv_iload hx hb dX25_best_69 (lv_at hl 5 rfl) ?_
        refine lv_iload_n hx hb dX25_best_71 rfl (lv_at hl 3 rfl) ?_
        refine g_cne (tgt := 78) hx hb dX25_best_72 (by decide) (by omega) (fun h4 => ?_) (fun h4 => ?_)
        · refine lv_iload hx hb dX25_best_78 (lv_at hl 4 rfl) ?_
          refine lv_aload_n hx hb dX25_best_80 rfl (lv_at hl 0 rfl) ?_
          refine lv_aload_n hx hb dX25_best_81 rfl (lv_at hl 1 rfl) ?_
          refine lv_iload hx hb dX25_best_82 (lv_at hl 5 rfl) ?_
          refine g_ci (va_runV (As := [.ref rv, .int (zI (v : Int))]) (rest := [.int (zI ((sc t tb pp qq) b : Nat))]) ⟨hx, hb, hml, hown, hts⟩ (metX25_score (s0 := v) hrv htb24 hcx hpq (by omega)) (cwV 2 hts (lw_V q2454 q2455 q2456 q154 q2457) rfl rfl rfl (by decide +kernel) ⟨Nat.le_of_ble_eq_true rfl, Nat.le_of_ble_eq_true rfl⟩) (g_preV hG (g_recv hG (hG.at 0 rfl) (ci := 23) rfl)) rfl rfl hl.1 rfl (lv_room (Nat.le_of_ble_eq_true rfl)) dX25_best_84 ⟨Nat.le_of_ble_eq_true rfl, Nat.le_of_ble_eq_true rfl⟩) hG (fun r_10 F_11 V_12 ws_ H locs hp hG => ?_)
          obtain ⟨rfl, rfl, rfl, rfl⟩ := hp
          have hG : gW X F V ((cx, oB 23 [.ref cl, va_rf al, va_rf be]) :: Z) s H locs := hG
          have hsv := hFR v
          refine g_isub hx hb dX25_best_87 ?_
          refine lv_iload_n hx hb dX25_best_88 rfl (lv_at hl 2 rfl) ?_
          refine g_cge (tgt := 97) hx hb dX25_best_89 (by decide) (by omega) (fun h5 => ?_) (fun h5 => ?_)
          · refine lv_iinc (v := zI ((v : Int) + 1 : Int)) (lv' := [(5, .int (zI ((v : Int) + 1 : Int))), (0, .ref cx), (1, .ref rv), (2, .int (zI (mr : Int))), (3, .int (zI (b : Int))), (4, .int (zI ((sc t tb pp qq) b : Nat)))]) hx hb dX25_best_97 hl (k := 5) rfl ((zI_add _ _).trans (congrArg zI (by omega))) (by decide) rfl (fun ls hl => ?_)
            refine lv_goto (tgt := 59) hx hb dX25_best_100 (by decide) ?_
            have hl : lv_has ls 7 [(5, .int (zI ((v + 1 : Nat) : Int))), (0, .ref cx), (1, .ref rv), (2, .int (zI (mr : Int))), (3, .int (zI (b : Int))), (4, .int (zI ((sc t tb pp qq) b : Nat)))] := by exact hl
            exact ihB ((scN tb pp qq) - (v + 1)) (by omega) H locs ls ⟨(v + 1), ⟨by omega, rfl, bsC_yes hC (Or.inr (by omega))⟩, hG, (lv_sub hl [1, 2, 3, 4, 5, 0] rfl)⟩
          · refine lv_iconst (v := zI (-1)) hx hb dX25_best_92 (by decide +kernel) ?_
            refine lv_istore_n (lv' := [(3, .int (zI (-1))), (0, .ref cx), (1, .ref rv), (2, .int (zI (mr : Int))), (4, .int (zI ((sc t tb pp qq) b : Nat))), (5, .int (zI (v : Int)))]) hx hb dX25_best_93 rfl hl (by decide) rfl (fun ls hl => ?_)
            refine lv_goto (tgt := 103) hx hb dX25_best_94 (by decide) ?_
            refine lv_iload_n hx hb dX25_best_103 rfl (lv_at hl 0 rfl) ?_
            exact g_iret hx hb hr hlocks hG (⟨by rw [lkX_s hbs, if_neg (by rw [bsC_no (s := v) (by omega) (by omega) _ (by omega)]; decide)]; rfl, rfl, rfl, rfl⟩) ⟨Nat.le_of_ble_eq_true rfl, Nat.le_of_ble_eq_true rfl⟩ dX25_best_104
        · refine lv_goto (tgt := 97) hx hb dX25_best_75 (by decide) ?_
          refine lv_iinc (v := zI ((v : Int) + 1 : Int)) (lv' := [(5, .int (zI ((v : Int) + 1 : Int))), (0, .ref cx), (1, .ref rv), (2, .int (zI (mr : Int))), (3, .int (zI (b : Int))), (4, .int (zI ((sc t tb pp qq) b : Nat)))]) hx hb dX25_best_97 hl (k := 5) rfl ((zI_add _ _).trans (congrArg zI (by omega))) (by decide) rfl (fun ls hl => ?_)
          refine lv_goto (tgt := 59) hx hb dX25_best_100 (by decide) ?_
          have hl : lv_has ls 7 [(5, .int (zI ((v + 1 : Nat) : Int))), (0, .ref cx), (1, .ref rv), (2, .int (zI (mr : Int))), (3, .int (zI (b : Int))), (4, .int (zI ((sc t tb pp qq) b : Nat)))] := by exact hl
          exact ihB ((scN tb pp qq) - (v + 1)) (by omega) H locs ls ⟨(v + 1), ⟨by omega, rfl, bsC_yes hC (Or.inl (by omega))⟩, hG, (lv_sub hl [1, 2, 3, 4, 5, 0] rfl)⟩
  · refine lv_aload_n hx hb dX25_best_18 rfl (lv_at hl 0 rfl) ?_
    refine lv_aload_n hx hb dX25_best_19 rfl (lv_at hl 1 rfl) ?_
    refine lv_iload hx hb dX25_best_20 (lv_at hl 5 rfl) ?_
    refine g_ci (va_runV (As := [.ref rv, .int (zI (v : Int))]) (rest := []) ⟨hx, hb, hml, hown, hts⟩ (metX25_score (s0 := v) hrv htb24 hcx hpq (by omega)) (cwV 2 hts (lw_V q2454 q2455 q2456 q154 q2457) rfl rfl rfl (by decide +kernel) ⟨Nat.le_of_ble_eq_true rfl, Nat.le_of_ble_eq_true rfl⟩) (g_preV hG (g_recv hG (hG.at 0 rfl) (ci := 23) rfl)) rfl rfl hl.1 rfl (lv_room (Nat.le_of_ble_eq_true rfl)) dX25_best_22 ⟨Nat.le_of_ble_eq_true rfl, Nat.le_of_ble_eq_true rfl⟩) hG (fun r_13 F_14 V_15 ws_ H locs hp hG => ?_)
    obtain ⟨rfl, rfl, rfl, rfl⟩ := hp
    have hG : gW X F V ((cx, oB 23 [.ref cl, va_rf al, va_rf be]) :: Z) s H locs := hG
    have hsv := hFR v
    refine lv_istore (lv' := [(6, .int (zI ((sc t tb pp qq) v : Nat))), (0, .ref cx), (1, .ref rv), (2, .int (zI (mr : Int))), (3, .int (zI (oI (bsS (sc t tb pp qq) v)))), (4, .int (zI (bsV (sc t tb pp qq) v))), (5, .int (zI (v : Int)))]) hx hb dX25_best_25 hl (by decide) rfl (fun ls hl => ?_)
    refine lv_iload hx hb dX25_best_27 (lv_at hl 0 rfl) ?_
    refine lv_iload hx hb dX25_best_29 (lv_at hl 5 rfl) ?_
    refine g_cle (tgt := 39) hx hb dX25_best_31 (by decide) (by omega) (fun h2 => ?_) (fun h2 => ?_)
    · have hup := bsV_no (f := (sc t tb pp qq)) (n := v) (by omega)
      refine lv_iload_n hx hb dX25_best_39 rfl (lv_at hl 4 rfl) ?_
      refine lv_istore_n (lv' := [(3, .int (zI (oI (bsS (sc t tb pp qq) v)))), (6, .int (zI ((sc t tb pp qq) v : Nat))), (0, .ref cx), (1, .ref rv), (2, .int (zI (mr : Int))), (4, .int (zI (bsV (sc t tb pp qq) v))), (5, .int (zI (v : Int)))]) hx hb dX25_best_40 rfl hl (by decide) rfl (fun ls hl => ?_)
      refine lv_iload hx hb dX25_best_41 (lv_at hl 5 rfl) ?_
      refine lv_iload hx hb dX25_best_43 (lv_at hl 1 rfl) ?_
      refine g_max hx hb (hml.trans hl.1.symm) hts hown (hts _ q2453) ⟨Nat.le_of_ble_eq_true rfl, Nat.le_of_ble_eq_true rfl, Nat.le_of_ble_eq_true rfl, Nat.le_of_ble_eq_true rfl⟩ (by omega) dX25_best_45 ?_
      refine lv_istore (lv' := [(4, .int (zI (max (bsV (sc t tb pp qq) v) ((sc t tb pp qq) v : Nat)))), (3, .int (zI (oI (bsS (sc t tb pp qq) v)))), (6, .int (zI ((sc t tb pp qq) v : Nat))), (0, .ref cx), (1, .ref rv), (2, .int (zI (mr : Int))), (5, .int (zI (v : Int)))]) hx hb dX25_best_48 hl (by decide) rfl (fun ls hl => ?_)
      refine lv_iinc (v := zI ((v : Int) + 1 : Int)) (lv' := [(5, .int (zI ((v : Int) + 1 : Int))), (4, .int (zI (max (bsV (sc t tb pp qq) v) ((sc t tb pp qq) v : Nat)))), (3, .int (zI (oI (bsS (sc t tb pp qq) v)))), (6, .int (zI ((sc t tb pp qq) v : Nat))), (0, .ref cx), (1, .ref rv), (2, .int (zI (mr : Int)))]) hx hb dX25_best_50 hl (k := 6) rfl ((zI_add _ _).trans (congrArg zI (by omega))) (by decide) rfl (fun ls hl => ?_)
      refine lv_goto (tgt := 8) hx hb dX25_best_53 (by decide) ?_
      have hl : lv_has ls 7 [(5, .int (zI ((v + 1 : Nat) : Int))), (4, .int (zI (bsV (sc t tb pp qq) (v + 1)))), (3, .int (zI (oI (bsS (sc t tb pp qq) (v + 1))))), (6, .int (zI ((sc t tb pp qq) v : Nat))), (0, .ref cx), (1, .ref rv), (2, .int (zI (mr : Int)))] := by rw [hup.1, hup.2]; have e9 : max (bsV (sc t tb pp qq) v) ((sc t tb pp qq) v : Nat) = bsV (sc t tb pp qq) v := (by omega); rw [e9] at hl; exact hl
      exact ihA ((scN tb pp qq) - (v + 1)) (by omega) H locs ls ⟨(v + 1), ⟨by omega, rfl⟩, hG, (lv_sub hl [4, 5, 6, 2, 1, 0] rfl)⟩
    · have hup := bsV_up (f := (sc t tb pp qq)) (n := v) (by omega)
      refine lv_iload hx hb dX25_best_34 (lv_at hl 6 rfl) ?_
      refine lv_goto (tgt := 40) hx hb dX25_best_36 (by decide) ?_
      refine lv_istore_n (lv' := [(3, .int (zI (v : Int))), (6, .int (zI ((sc t tb pp qq) v : Nat))), (0, .ref cx), (1, .ref rv), (2, .int (zI (mr : Int))), (4, .int (zI (bsV (sc t tb pp qq) v))), (5, .int (zI (v : Int)))]) hx hb dX25_best_40 rfl hl (by decide) rfl (fun ls hl => ?_)
      refine lv_iload hx hb dX25_best_41 (lv_at hl 5 rfl) ?_
      refine lv_iload hx hb dX25_best_43 (lv_at hl 1 rfl) ?_
      refine g_max hx hb (hml.trans hl.1.symm) hts hown (hts _ q2453) ⟨Nat.le_of_ble_eq_true rfl, Nat.le_of_ble_eq_true rfl, Nat.le_of_ble_eq_true rfl, Nat.le_of_ble_eq_true rfl⟩ (by omega) dX25_best_45 ?_
      refine lv_istore (lv' := [(4, .int (zI (max (bsV (sc t tb pp qq) v) ((sc t tb pp qq) v : Nat)))), (3, .int (zI (v : Int))), (6, .int (zI ((sc t tb pp qq) v : Nat))), (0, .ref cx), (1, .ref rv), (2, .int (zI (mr : Int))), (5, .int (zI (v : Int)))]) hx hb dX25_best_48 hl (by decide) rfl (fun ls hl => ?_)
      refine lv_iinc (v := zI ((v : Int) + 1 : Int)) (lv' := [(5, .int (zI ((v : Int) + 1 : Int))), (4, .int (zI (max (bsV (sc t tb pp qq) v) ((sc t tb pp qq) v : Nat)))), (3, .int (zI (v : Int))), (6, .int (zI ((sc t tb pp qq) v : Nat))), (0, .ref cx), (1, .ref rv), (2, .int (zI (mr : Int)))]) hx hb dX25_best_50 hl (k := 6) rfl ((zI_add _ _).trans (congrArg zI (by omega))) (by decide) rfl (fun ls hl => ?_)
      refine lv_goto (tgt := 8) hx hb dX25_best_53 (by decide) ?_
      have hl : lv_has ls 7 [(5, .int (zI ((v + 1 : Nat) : Int))), (4, .int (zI (bsV (sc t tb pp qq) (v + 1)))), (3, .int (zI (oI (bsS (sc t tb pp qq) (v + 1))))), (6, .int (zI ((sc t tb pp qq) v : Nat))), (0, .ref cx), (1, .ref rv), (2, .int (zI (mr : Int)))] := by rw [hup.1, hup.2]; have e9 : max (bsV (sc t tb pp qq) v) ((sc t tb pp qq) v : Nat) = ((sc t tb pp qq) v : Nat) := (by omega); rw [e9] at hl; exact hl
      exact ihA ((scN tb pp qq) - (v + 1)) (by omega) H locs ls ⟨(v + 1), ⟨by omega, rfl⟩, hG, (lv_sub hl [4, 5, 6, 2, 1, 0] rfl)⟩

