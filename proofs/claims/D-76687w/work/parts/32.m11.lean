set_option maxRecDepth 100000
theorem bsS_some {f : Nat → Nat} : ∀ n b, bsS f n = some b → b < n := by
  intro n
  induction n with
  | zero => intro b h; cases h
  | succ n ih =>
    intro b h
    rw [bsS] at h
    cases hb : bsS f n with
    | none => rw [hb] at h; cases h; omega
    | some x =>
      rw [hb] at h
      have h : (if f x < f n then some n else some x) = some b := h
      have := ih x hb
      split at h <;> (cases h; omega)
theorem bsS_none {f : Nat → Nat} : ∀ n, bsS f n = none ↔ n = 0 := by
  intro n
  cases n with
  | zero => exact ⟨fun _ => rfl, fun _ => rfl⟩
  | succ n =>
    refine ⟨fun h => ?_, fun h => by omega⟩
    rw [bsS] at h
    cases hb : bsS f n with
    | none => rw [hb] at h; cases h
    | some x => rw [hb] at h; have h : (if f x < f n then some n else some x) = none := h; split at h <;> cases h
/-- the best score so far, -1 for none -/
def bsV (f : Nat → Nat) (n : Nat) : Int := match bsS f n with
  | none => -1
  | some b => (f b : Nat)
theorem bsV_up {f : Nat → Nat} {n : Nat} (h : bsV f n < (f n : Nat)) : bsS f (n + 1) = some n ∧ bsV f (n + 1) = (f n : Nat) := by
  have e : bsS f (n + 1) = some n := by
    rw [bsS]; unfold bsV at h
    cases hb : bsS f n with
    | none => rfl
    | some x => rw [hb] at h; have h : ((f x : Nat) : Int) < (f n : Nat) := h; show (if f x < f n then some n else some x) = _; rw [if_pos (by omega)]
  exact ⟨e, by unfold bsV; rw [e]⟩
theorem bsV_no {f : Nat → Nat} {n : Nat} (h : (f n : Nat) ≤ bsV f n) : bsS f (n + 1) = bsS f n ∧ bsV f (n + 1) = bsV f n := by
  have e : bsS f (n + 1) = bsS f n := by
    rw [bsS]; unfold bsV at h
    cases hb : bsS f n with
    | none => rw [hb] at h; have h : ((f n : Nat) : Int) ≤ -1 := h; omega
    | some x => rw [hb] at h; have h : ((f n : Nat) : Int) ≤ (f x : Nat) := h; show (if f x < f n then some n else some x) = _; rw [if_neg (by omega)]
  exact ⟨e, by unfold bsV; rw [e]⟩
theorem scSum_le (tl tb : Tx) (lp s : Nat) : ∀ k, scSum tl tb lp s k ≤ 3 * k := by
  intro k
  induction k with
  | zero => exact Nat.le_refl _
  | succ k ih => rw [scSum]; split <;> omega
theorem sc_le {tl tb : Tx} {lp lq s : Nat} : sc tl tb lp lq s ≤ 3 * (lq - lp + 1) + 4 := by
  unfold sc scAh scBe
  have := scSum_le tl tb lp s (lq - lp + 1)
  (repeat' split) <;> omega
theorem bsV_R {f : Nat → Nat} {N : Nat} (h : ∀ s, f s ≤ N) (n : Nat) : -1 ≤ bsV f n ∧ bsV f n ≤ (N : Nat) := by
  unfold bsV
  cases bsS f n with
  | none => show (-1 : Int) ≤ -1 ∧ (-1 : Int) ≤ (N : Nat); omega
  | some b => have := h b; show (-1 : Int) ≤ ((f b : Nat) : Int) ∧ ((f b : Nat) : Int) ≤ (N : Nat); omega
theorem alk_iff {ta tb : Tx} {i j : Nat} : alk ta tb i j = true ↔ ta.getD i [] = tb.getD j [] := decide_eq_true_iff
/-- where a walk was last -/
def mLast (S : mS) (w : aW) (la lp lq : Nat) : Prop := S.1 34 = (la : Nat) ∧ S.1 35 = (lp : Nat) ∧ S.1 36 = (lq : Nat) ∧ la < wN w ∧ lp ≤ lq ∧ lq < (wTx w la).length
theorem mLast.cg {S T : mS} {w : aW} {la lp lq : Nat} (h : mLast S w la lp lq) (e : T.1 34 = S.1 34 ∧ T.1 35 = S.1 35 ∧ T.1 36 = S.1 36) : mLast T w la lp lq := by unfold mLast; rw [e.1, e.2.1, e.2.2]; exact h
set_option maxHeartbeats 4000000 in
theorem metX4_placesOn {l : Launch} {X : gX} {mo : Nat} {ad : Nat → Nat} {S : mS} {w : aW} {b la lp lq : Nat} (hR : mRv S w) (hK : wOK w) (hb9 : b < wN w) (hL : mLast S w la lp lq) : Met l yX4_placesOn (ws_ yX4_placesOn cX4_placesOn 2 (some FieldType.int)) ({ frames := 1, cells := 0, slots := 0, locals := 21 }) (mP X mo ad S [.ref mo, .int (zI (b : Int))]) (mQi X mo ad (fun u T => u = zI (scN (wTx w b) lp lq : Nat) ∧ S = T)) 0 0 (mA mo ad) := by
  refine Met.m (by decide) (Nat.le_of_ble_eq_true rfl) ?_
  intro p e s m below meth c ls hx hb hr hts hown hlocks hml hG hl
  have hl : lv_has ls 2 [(0, .ref mo), (1, .int (zI (b : Int)))] := hl
  have hNN := hK.n
  have hL4 := hL.2.2.2
  have hlL := (hK.tx (r := la) hL4.1).1
  have hlB := (hK.tx (r := b) hb9).1
  refine lv_iconst (v := zI 0) hx hb dX4_placesOn_0 (by decide +kernel) ?_
  refine lv_aload_n hx hb dX4_placesOn_1 rfl (lv_at hl 0 rfl) ?_
  refine m_get 2 (by decide) (v := .ref (ad 2)) rfl hx hb hts hown hG (hts _ q3298) dX4_placesOn_2 ?_
  refine lv_iload_n hx hb dX4_placesOn_5 rfl (lv_at hl 1 rfl) ?_
  refine m_iald 2 rfl rfl (by decide) b (v := ((wTx w b).length : Int)) ⟨by omega, by show _ < 17; omega⟩ (show S.2.1 2 b = ((wTx w b).length : Int) from (hR.len hb9)) hx hb hG dX4_placesOn_6 ?_
  refine lv_aload_n hx hb dX4_placesOn_7 rfl (lv_at hl 0 rfl) ?_
  refine m_get 36 (by decide) (v := .int (zI (lq : Int))) (congrArg (fun z => Value.int (zI z)) (show S.1 36 = (lq : Int) from hL.2.2.1)) hx hb hts hown hG (hts _ q3332) dX4_placesOn_8 ?_
  refine lv_aload_n hx hb dX4_placesOn_11 rfl (lv_at hl 0 rfl) ?_
  refine m_get 35 (by decide) (v := .int (zI (lp : Int))) (congrArg (fun z => Value.int (zI z)) (show S.1 35 = (lp : Int) from hL.2.1)) hx hb hts hown hG (hts _ q3331) dX4_placesOn_12 ?_
  refine g_isub hx hb dX4_placesOn_15 ?_
  refine g_isub hx hb dX4_placesOn_16 ?_
  refine g_max hx hb (hml.trans hl.1.symm) hts hown (hts _ q3513) ⟨Nat.le_of_ble_eq_true rfl, Nat.le_of_ble_eq_true rfl, Nat.le_of_ble_eq_true rfl, Nat.le_of_ble_eq_true rfl⟩ (by omega) dX4_placesOn_17 ?_
  exact m_iret hx hb hr hlocks hG (⟨congrArg zI (show max 0 _ = ((scN (wTx w b) lp lq : Nat) : Int) by unfold scN; omega), rfl⟩) ⟨Nat.le_of_ble_eq_true rfl, Nat.le_of_ble_eq_true rfl⟩ dX4_placesOn_20

set_option maxHeartbeats 4000000 in
theorem metX4_score {l : Launch} {X : gX} {mo : Nat} {ad : Nat → Nat} {S : mS} {w : aW} {b la lp lq : Nat} (hR : mRv S w) (hK : wOK w) (hb9 : b < wN w) (hL : mLast S w la lp lq) {v : Nat} (hv : v + (lq - lp) < (wTx w b).length) : Met l yX4_score (ws_ yX4_score cX4_score 7 (some FieldType.int)) ({ frames := 1, cells := 0, slots := 0, locals := 24 }) (mP X mo ad S [.ref mo, .int (zI (b : Int)), .int (zI (v : Int))]) (mQi X mo ad (fun u T => u = zI (sc (wTx w la) (wTx w b) lp lq v : Nat) ∧ S = T)) 0 0 (mA mo ad) := by
  refine Met.m (by decide) (Nat.le_of_ble_eq_true rfl) ?_
  intro p e s m below meth c ls hx hb hr hts hown hlocks hml hG hl
  have hl : lv_has ls 7 [(0, .ref mo), (1, .int (zI (b : Int))), (2, .int (zI (v : Int)))] := hl
  have hNN := hK.n
  have hL4 := hL.2.2.2
  have hlL := (hK.tx (r := la) hL4.1).1
  have hlB := (hK.tx (r := b) hb9).1
  refine lv_aload_n hx hb dX4_score_0 rfl (lv_at hl 0 rfl) ?_
  refine m_get 36 (by decide) (v := .int (zI (lq : Int))) (congrArg (fun z => Value.int (zI z)) (show S.1 36 = (lq : Int) from hL.2.2.1)) hx hb hts hown hG (hts _ q3332) dX4_score_1 ?_
  refine lv_aload_n hx hb dX4_score_4 rfl (lv_at hl 0 rfl) ?_
  refine m_get 35 (by decide) (v := .int (zI (lp : Int))) (congrArg (fun z => Value.int (zI z)) (show S.1 35 = (lp : Int) from hL.2.1)) hx hb hts hown hG (hts _ q3331) dX4_score_5 ?_
  refine g_isub hx hb dX4_score_8 ?_
  refine lv_iconst (v := zI 1) hx hb dX4_score_9 (by decide +kernel) ?_
  refine g_iadd hx hb dX4_score_10 ?_
  refine lv_istore_n (lv' := [(3, .int (zI (((lq : Int) - (lp : Int)) + 1))), (0, .ref mo), (1, .int (zI (b : Int))), (2, .int (zI (v : Int)))]) hx hb dX4_score_11 rfl hl (by decide) rfl (fun ls hl => ?_)
  refine lv_iconst (v := zI 0) hx hb dX4_score_12 (by decide +kernel) ?_
  refine lv_istore (lv' := [(4, .int (zI 0)), (3, .int (zI (((lq : Int) - (lp : Int)) + 1))), (0, .ref mo), (1, .int (zI (b : Int))), (2, .int (zI (v : Int)))]) hx hb dX4_score_13 hl (by decide) rfl (fun ls hl => ?_)
  refine lv_iconst (v := zI 0) hx hb dX4_score_15 (by decide +kernel) ?_
  refine lv_istore (lv' := [(5, .int (zI 0)), (4, .int (zI 0)), (3, .int (zI (((lq : Int) - (lp : Int)) + 1))), (0, .ref mo), (1, .int (zI (b : Int))), (2, .int (zI (v : Int)))]) hx hb dX4_score_16 hl (by decide) rfl (fun ls hl => ?_)
  refine g_loop (fun mz H locs ls => ∃ (k : Nat), (k ≤ lq - lp + 1 ∧ mz = (lq - lp + 1) - k) ∧ mW X mo ad S s H locs ∧ lv_has ls 7 [(0, .ref mo), (1, .int (zI (b : Int))), (2, .int (zI (v : Int))), (3, .int (zI ((lq : Int) - (lp : Int) + 1))), (4, .int (zI (scSum (wTx w la) (wTx w b) lp v k : Int))), (5, .int (zI (k : Int)))]) ((lq - lp + 1) - 0) ⟨0, ⟨Nat.zero_le _, rfl⟩, hG, (lv_sub hl [3, 4, 5, 2, 1, 0] rfl)⟩ (fun mz ihA H locs ls hI => ?_)
  obtain ⟨k, ⟨hk, hmz⟩, hG, hl⟩ := hI
  have hss := scSum_le (wTx w la) (wTx w b) lp v k
  refine lv_iload hx hb dX4_score_18 (lv_at hl 5 rfl) ?_
  refine lv_iload_n hx hb dX4_score_20 rfl (lv_at hl 3 rfl) ?_
  refine g_cge (tgt := 56) hx hb dX4_score_21 (by decide) (by omega) (fun h1 => ?_) (fun h1 => ?_)
  · have hkn : k = lq - lp + 1 := by omega
    subst hkn
    have hl : lv_has ls 7 [(0, .ref mo), (1, .int (zI (b : Int))), (2, .int (zI (v : Int))), (3, .int (zI ((lq : Int) - (lp : Int) + 1))), (4, .int (zI (scSum (wTx w la) (wTx w b) lp v (lq - lp + 1) : Int))), (5, .int (zI ((lq - lp + 1 : Nat) : Int)))] := by exact hl
    refine g_joinM 113 (fun H locs => mW X mo ad S s H locs) 7 [(0, .ref mo), (1, .int (zI (b : Int))), (2, .int (zI (v : Int))), (3, .int (zI ((lq : Int) - (lp : Int) + 1))), (4, .int (zI ((scSum (wTx w la) (wTx w b) lp v (lq - lp + 1) : Int) + (scAh (wTx w la) (wTx w b) lp v : Int))))] (fun H locs ls hG hl => ?_) (fun KA => ?_)
    · refine lv_aload_n hx hb dX4_score_113 rfl (lv_at hl 0 rfl) ?_
      refine m_get 36 (by decide) (v := .int (zI (lq : Int))) (congrArg (fun z => Value.int (zI z)) (show S.1 36 = (lq : Int) from hL.2.2.1)) hx hb hts hown hG (hts _ q3332) dX4_score_114 ?_
      refine lv_aload_n hx hb dX4_score_117 rfl (lv_at hl 0 rfl) ?_
      refine m_get 2 (by decide) (v := .ref (ad 2)) rfl hx hb hts hown hG (hts _ q3298) dX4_score_118 ?_
      refine lv_aload_n hx hb dX4_score_121 rfl (lv_at hl 0 rfl) ?_
      refine m_get 34 (by decide) (v := .int (zI (la : Int))) (congrArg (fun z => Value.int (zI z)) (show S.1 34 = (la : Int) from hL.1)) hx hb hts hown hG (hts _ q3330) dX4_score_122 ?_
      refine m_iald 2 rfl rfl (by decide) la (v := ((wTx w la).length : Int)) ⟨by omega, by show _ < 17; omega⟩ (show S.2.1 2 la = ((wTx w la).length : Int) from (hR.len hL4.1)) hx hb hG dX4_score_125 ?_
      refine lv_iconst (v := zI 1) hx hb dX4_score_126 (by decide +kernel) ?_
      refine g_isub hx hb dX4_score_127 ?_
      refine g_cne (tgt := 135) hx hb dX4_score_128 (by decide) (by omega) (fun h7 => ?_) (fun h7 => ?_)
      · refine lv_iconst (v := zI 0) hx hb dX4_score_135 (by decide +kernel) ?_
        refine lv_istore (lv' := [(6, .int (zI 0)), (0, .ref mo), (1, .int (zI (b : Int))), (2, .int (zI (v : Int))), (3, .int (zI ((lq : Int) - (lp : Int) + 1))), (4, .int (zI ((scSum (wTx w la) (wTx w b) lp v (lq - lp + 1) : Int) + (scAh (wTx w la) (wTx w b) lp v : Int))))]) hx hb dX4_score_136 hl (by decide) rfl (fun ls hl => ?_)
        refine lv_iload hx hb dX4_score_138 (lv_at hl 0 rfl) ?_
        refine lv_iload_n hx hb dX4_score_140 rfl (lv_at hl 3 rfl) ?_
        refine lv_iload_n hx hb dX4_score_141 rfl (lv_at hl 4 rfl) ?_
        refine g_iadd hx hb dX4_score_142 ?_
        refine lv_aload_n hx hb dX4_score_143 rfl (lv_at hl 1 rfl) ?_
        refine m_get 2 (by decide) (v := .ref (ad 2)) rfl hx hb hts hown hG (hts _ q3298) dX4_score_144 ?_
        refine lv_iload_n hx hb dX4_score_147 rfl (lv_at hl 2 rfl) ?_
        refine m_iald 2 rfl rfl (by decide) b (v := ((wTx w b).length : Int)) ⟨by omega, by show _ < 17; omega⟩ (show S.2.1 2 b = ((wTx w b).length : Int) from (hR.len hb9)) hx hb hG dX4_score_148 ?_
        refine g_cne (tgt := 156) hx hb dX4_score_149 (by decide) (by omega) (fun h8 => ?_) (fun h8 => ?_)
        · refine lv_iconst (v := zI 0) hx hb dX4_score_156 (by decide +kernel) ?_
          refine g_cne (tgt := 189) hx hb dX4_score_157 (by decide) (by omega) (fun h9 => ?_) (fun h9 => ?_)
          · exfalso; omega
          · refine lv_iload hx hb dX4_score_160 (lv_at hl 0 rfl) ?_
            refine g_ne (tgt := 186) hx hb dX4_score_162 (by decide) (by decide) (fun h10 => ?_) (fun h10 => ?_)
            · exfalso; omega
            · refine lv_aload_n hx hb dX4_score_165 rfl (lv_at hl 1 rfl) ?_
              refine lv_aload_n hx hb dX4_score_166 rfl (lv_at hl 1 rfl) ?_
              refine m_get 34 (by decide) (v := .int (zI (la : Int))) (congrArg (fun z => Value.int (zI z)) (show S.1 34 = (la : Int) from hL.1)) hx hb hts hown hG (hts _ q3330) dX4_score_167 ?_
              refine lv_aload_n hx hb dX4_score_170 rfl (lv_at hl 1 rfl) ?_
              refine m_get 36 (by decide) (v := .int (zI (lq : Int))) (congrArg (fun z => Value.int (zI z)) (show S.1 36 = (lq : Int) from hL.2.2.1)) hx hb hts hown hG (hts _ q3332) dX4_score_171 ?_
              refine lv_iconst (v := zI 1) hx hb dX4_score_174 (by decide +kernel) ?_
              refine g_iadd hx hb dX4_score_175 ?_
              refine g_topz (y := (((lq + 1) : Nat) : Int)) (by omega) ?_
              refine lv_iload_n hx hb dX4_score_176 rfl (lv_at hl 2 rfl) ?_
              refine lv_iload_n hx hb dX4_score_177 rfl (lv_at hl 3 rfl) ?_
              refine lv_iload_n hx hb dX4_score_178 rfl (lv_at hl 4 rfl) ?_
              refine g_iadd hx hb dX4_score_179 ?_
              refine g_topz (y := (((v + (lq - lp + 1)) : Nat) : Int)) (by omega) ?_
              refine m_ci (va_runV (As := [.int (zI (la : Int)), .int (zI (((lq + 1) : Nat) : Int)), .int (zI (b : Int)), .int (zI (((v + (lq - lp + 1)) : Nat) : Int))]) (rest := []) ⟨hx, hb, hml, hown, hts⟩ (metX4_isAlike (a := la) (i := (lq + 1)) (a2 := b) (j := (v + (lq - lp + 1))) (by omega)) (cwV 4 hts (lw_V q3509 q3511 qs55 q102 q3512) rfl rfl rfl (by decide +kernel) ⟨Nat.le_of_ble_eq_true rfl, Nat.le_of_ble_eq_true rfl⟩) (m_preV hG) rfl rfl hl.1 rfl (lv_room (Nat.le_of_ble_eq_true rfl)) dX4_score_180 ⟨Nat.le_of_ble_eq_true rfl, Nat.le_of_ble_eq_true rfl⟩) hG (fun r_1 S_2 H locs hp hG => ?_)
              obtain ⟨b4, rfl, hb4, rfl⟩ := hp
              have hG : mW X mo ad S s H locs := hG
              rw [← hR.al hK hL4.1 hb9 (by omega) (by omega), Ne, ← hR.al hK hL4.1 hb9 (by omega) (by omega), alk_iff] at hb4
              refine g_eq (tgt := 189) hx hb dX4_score_183 (by decide) (by omega) (fun h11 => ?_) (fun h11 => ?_)
              · have hbe : scBe (wTx w la) (wTx w b) lq (v + (lq - lp + 1)) = 0 := by unfold scBe; rw [if_neg (fun q => (hb4.elim (fun z => absurd z.1 (by omega)) (fun z => z.2)) (q.2.elim (fun z => absurd z (by omega)) id))]
                refine lv_iload hx hb dX4_score_189 (lv_at hl 5 rfl) ?_
                exact m_iret hx hb hr hlocks hG (⟨congrArg zI (by show _ = ((scSum (wTx w la) (wTx w b) lp v (lq - lp + 1) + scAh (wTx w la) (wTx w b) lp v + scBe (wTx w la) (wTx w b) lq (v + (lq - lp + 1)) : Nat) : Int); omega), rfl⟩) ⟨Nat.le_of_ble_eq_true rfl, Nat.le_of_ble_eq_true rfl⟩ dX4_score_191
              · refine lv_iinc (v := zI (((scSum (wTx w la) (wTx w b) lp v (lq - lp + 1) : Int) + (scAh (wTx w la) (wTx w b) lp v : Int)) + 2 : Int)) (lv' := [(4, .int (zI (((scSum (wTx w la) (wTx w b) lp v (lq - lp + 1) : Int) + (scAh (wTx w la) (wTx w b) lp v : Int)) + 2 : Int))), (6, .int (zI 0)), (0, .ref mo), (1, .int (zI (b : Int))), (2, .int (zI (v : Int))), (3, .int (zI ((lq : Int) - (lp : Int) + 1)))]) hx hb dX4_score_186 hl (k := 5) rfl ((zI_add _ _).trans (congrArg zI (by omega))) (by decide) rfl (fun ls hl => ?_)
                have hbe : scBe (wTx w la) (wTx w b) lq (v + (lq - lp + 1)) = 2 := by unfold scBe; rw [if_pos ⟨by omega, Or.inr (hb4.elim (fun z => z.2) (fun z => absurd z.1 (by omega)))⟩]
                refine lv_iload hx hb dX4_score_189 (lv_at hl 0 rfl) ?_
                exact m_iret hx hb hr hlocks hG (⟨congrArg zI (by show _ = ((scSum (wTx w la) (wTx w b) lp v (lq - lp + 1) + scAh (wTx w la) (wTx w b) lp v + scBe (wTx w la) (wTx w b) lq (v + (lq - lp + 1)) : Nat) : Int); omega), rfl⟩) ⟨Nat.le_of_ble_eq_true rfl, Nat.le_of_ble_eq_true rfl⟩ dX4_score_191
        · refine lv_iconst (v := zI 1) hx hb dX4_score_152 (by decide +kernel) ?_
          refine lv_goto (tgt := 157) hx hb dX4_score_153 (by decide) ?_
          refine g_cne (tgt := 189) hx hb dX4_score_157 (by decide) (by omega) (fun h9 => ?_) (fun h9 => ?_)
          · have hbe : scBe (wTx w la) (wTx w b) lq (v + (lq - lp + 1)) = 0 := by unfold scBe; rw [if_neg (by omega)]
            refine lv_iload hx hb dX4_score_189 (lv_at hl 5 rfl) ?_
            exact m_iret hx hb hr hlocks hG (⟨congrArg zI (by show _ = ((scSum (wTx w la) (wTx w b) lp v (lq - lp + 1) + scAh (wTx w la) (wTx w b) lp v + scBe (wTx w la) (wTx w b) lq (v + (lq - lp + 1)) : Nat) : Int); omega), rfl⟩) ⟨Nat.le_of_ble_eq_true rfl, Nat.le_of_ble_eq_true rfl⟩ dX4_score_191
          · exfalso; omega
      · refine lv_iconst (v := zI 1) hx hb dX4_score_131 (by decide +kernel) ?_
        refine lv_goto (tgt := 136) hx hb dX4_score_132 (by decide) ?_
        refine lv_istore (lv' := [(6, .int (zI 1)), (0, .ref mo), (1, .int (zI (b : Int))), (2, .int (zI (v : Int))), (3, .int (zI ((lq : Int) - (lp : Int) + 1))), (4, .int (zI ((scSum (wTx w la) (wTx w b) lp v (lq - lp + 1) : Int) + (scAh (wTx w la) (wTx w b) lp v : Int))))]) hx hb dX4_score_136 hl (by decide) rfl (fun ls hl => ?_)
        refine lv_iload hx hb dX4_score_138 (lv_at hl 0 rfl) ?_
        refine lv_iload_n hx hb dX4_score_140 rfl (lv_at hl 3 rfl) ?_
        refine lv_iload_n hx hb dX4_score_141 rfl (lv_at hl 4 rfl) ?_
        refine g_iadd hx hb dX4_score_142 ?_
        refine lv_aload_n hx hb dX4_score_143 rfl (lv_at hl 1 rfl) ?_
        refine m_get 2 (by decide) (v := .ref (ad 2)) rfl hx hb hts hown hG (hts _ q3298) dX4_score_144 ?_
        refine lv_iload_n hx hb dX4_score_147 rfl (lv_at hl 2 rfl) ?_
        refine m_iald 2 rfl rfl (by decide) b (v := ((wTx w b).length : Int)) ⟨by omega, by show _ < 17; omega⟩ (show S.2.1 2 b = ((wTx w b).length : Int) from (hR.len hb9)) hx hb hG dX4_score_148 ?_
        refine g_cne (tgt := 156) hx hb dX4_score_149 (by decide) (by omega) (fun h8 => ?_) (fun h8 => ?_)
        · refine lv_iconst (v := zI 0) hx hb dX4_score_156 (by decide +kernel) ?_
          refine g_cne (tgt := 189) hx hb dX4_score_157 (by decide) (by omega) (fun h9 => ?_) (fun h9 => ?_)
          · have hbe : scBe (wTx w la) (wTx w b) lq (v + (lq - lp + 1)) = 0 := by unfold scBe; rw [if_neg (by omega)]
            refine lv_iload hx hb dX4_score_189 (lv_at hl 5 rfl) ?_
            exact m_iret hx hb hr hlocks hG (⟨congrArg zI (by show _ = ((scSum (wTx w la) (wTx w b) lp v (lq - lp + 1) + scAh (wTx w la) (wTx w b) lp v + scBe (wTx w la) (wTx w b) lq (v + (lq - lp + 1)) : Nat) : Int); omega), rfl⟩) ⟨Nat.le_of_ble_eq_true rfl, Nat.le_of_ble_eq_true rfl⟩ dX4_score_191
          · exfalso; omega
        · refine lv_iconst (v := zI 1) hx hb dX4_score_152 (by decide +kernel) ?_
          refine lv_goto (tgt := 157) hx hb dX4_score_153 (by decide) ?_
          refine g_cne (tgt := 189) hx hb dX4_score_157 (by decide) (by omega) (fun h9 => ?_) (fun h9 => ?_)
          · exfalso; omega
          · refine lv_iload hx hb dX4_score_160 (lv_at hl 0 rfl) ?_
            refine g_ne (tgt := 186) hx hb dX4_score_162 (by decide) (by decide) (fun h10 => ?_) (fun h10 => ?_)
            · refine lv_iinc (v := zI (((scSum (wTx w la) (wTx w b) lp v (lq - lp + 1) : Int) + (scAh (wTx w la) (wTx w b) lp v : Int)) + 2 : Int)) (lv' := [(4, .int (zI (((scSum (wTx w la) (wTx w b) lp v (lq - lp + 1) : Int) + (scAh (wTx w la) (wTx w b) lp v : Int)) + 2 : Int))), (6, .int (zI 1)), (0, .ref mo), (1, .int (zI (b : Int))), (2, .int (zI (v : Int))), (3, .int (zI ((lq : Int) - (lp : Int) + 1)))]) hx hb dX4_score_186 hl (k := 5) rfl ((zI_add _ _).trans (congrArg zI (by omega))) (by decide) rfl (fun ls hl => ?_)
              have hbe : scBe (wTx w la) (wTx w b) lq (v + (lq - lp + 1)) = 2 := by unfold scBe; rw [if_pos (by omega)]
              refine lv_iload hx hb dX4_score_189 (lv_at hl 0 rfl) ?_
              exact m_iret hx hb hr hlocks hG (⟨congrArg zI (by show _ = ((scSum (wTx w la) (wTx w b) lp v (lq - lp + 1) + scAh (wTx w la) (wTx w b) lp v + scBe (wTx w la) (wTx w b) lq (v + (lq - lp + 1)) : Nat) : Int); omega), rfl⟩) ⟨Nat.le_of_ble_eq_true rfl, Nat.le_of_ble_eq_true rfl⟩ dX4_score_191
            · exfalso; omega
    · refine lv_aload_n hx hb dX4_score_56 rfl (lv_at hl 0 rfl) ?_
      refine m_get 35 (by decide) (v := .int (zI (lp : Int))) (congrArg (fun z => Value.int (zI z)) (show S.1 35 = (lp : Int) from hL.2.1)) hx hb hts hown hG (hts _ q3331) dX4_score_57 ?_
      refine g_ne (tgt := 67) hx hb dX4_score_60 (by decide) (by omega) (fun h5 => ?_) (fun h5 => ?_)
      · refine lv_iconst (v := zI 0) hx hb dX4_score_67 (by decide +kernel) ?_
        refine lv_istore (lv' := [(5, .int (zI 0)), (0, .ref mo), (1, .int (zI (b : Int))), (2, .int (zI (v : Int))), (3, .int (zI ((lq : Int) - (lp : Int) + 1))), (4, .int (zI (scSum (wTx w la) (wTx w b) lp v (lq - lp + 1) : Int)))]) hx hb dX4_score_68 hl (by decide) rfl (fun ls hl => ?_)
        refine lv_iload hx hb dX4_score_70 (lv_at hl 0 rfl) ?_
        refine lv_iload_n hx hb dX4_score_72 rfl (lv_at hl 3 rfl) ?_
        refine g_ne (tgt := 80) hx hb dX4_score_73 (by decide) (by omega) (fun h6 => ?_) (fun h6 => ?_)
        · refine lv_iconst (v := zI 0) hx hb dX4_score_80 (by decide +kernel) ?_
          refine g_cne (tgt := 113) hx hb dX4_score_81 (by decide) (by omega) (fun h9 => ?_) (fun h9 => ?_)
          · exfalso; omega
          · refine lv_iload hx hb dX4_score_84 (lv_at hl 0 rfl) ?_
            refine g_ne (tgt := 110) hx hb dX4_score_86 (by decide) (by decide) (fun h10 => ?_) (fun h10 => ?_)
            · exfalso; omega
            · refine lv_aload_n hx hb dX4_score_89 rfl (lv_at hl 1 rfl) ?_
              refine lv_aload_n hx hb dX4_score_90 rfl (lv_at hl 1 rfl) ?_
              refine m_get 34 (by decide) (v := .int (zI (la : Int))) (congrArg (fun z => Value.int (zI z)) (show S.1 34 = (la : Int) from hL.1)) hx hb hts hown hG (hts _ q3330) dX4_score_91 ?_
              refine lv_aload_n hx hb dX4_score_94 rfl (lv_at hl 1 rfl) ?_
              refine m_get 35 (by decide) (v := .int (zI (lp : Int))) (congrArg (fun z => Value.int (zI z)) (show S.1 35 = (lp : Int) from hL.2.1)) hx hb hts hown hG (hts _ q3331) dX4_score_95 ?_
              refine lv_iconst (v := zI 1) hx hb dX4_score_98 (by decide +kernel) ?_
              refine g_isub hx hb dX4_score_99 ?_
              refine g_topz (y := (((lp - 1) : Nat) : Int)) (by omega) ?_
              refine lv_iload_n hx hb dX4_score_100 rfl (lv_at hl 2 rfl) ?_
              refine lv_iload_n hx hb dX4_score_101 rfl (lv_at hl 3 rfl) ?_
              refine lv_iconst (v := zI 1) hx hb dX4_score_102 (by decide +kernel) ?_
              refine g_isub hx hb dX4_score_103 ?_
              refine g_topz (y := (((v - 1) : Nat) : Int)) (by omega) ?_
              refine m_ci (va_runV (As := [.int (zI (la : Int)), .int (zI (((lp - 1) : Nat) : Int)), .int (zI (b : Int)), .int (zI (((v - 1) : Nat) : Int))]) (rest := []) ⟨hx, hb, hml, hown, hts⟩ (metX4_isAlike (a := la) (i := (lp - 1)) (a2 := b) (j := (v - 1)) (by omega)) (cwV 4 hts (lw_V q3509 q3511 qs55 q102 q3512) rfl rfl rfl (by decide +kernel) ⟨Nat.le_of_ble_eq_true rfl, Nat.le_of_ble_eq_true rfl⟩) (m_preV hG) rfl rfl hl.1 rfl (lv_room (Nat.le_of_ble_eq_true rfl)) dX4_score_104 ⟨Nat.le_of_ble_eq_true rfl, Nat.le_of_ble_eq_true rfl⟩) hG (fun r_3 S_4 H locs hp hG => ?_)
              obtain ⟨b4, rfl, hb4, rfl⟩ := hp
              have hG : mW X mo ad S s H locs := hG
              rw [← hR.al hK hL4.1 hb9 (by omega) (by omega), Ne, ← hR.al hK hL4.1 hb9 (by omega) (by omega), alk_iff] at hb4
              refine g_eq (tgt := 113) hx hb dX4_score_107 (by decide) (by omega) (fun h11 => ?_) (fun h11 => ?_)
              · have hah : scAh (wTx w la) (wTx w b) lp v = 0 := by unfold scAh; rw [if_neg (fun q => (hb4.elim (fun z => absurd z.1 (by omega)) (fun z => z.2)) (q.2.elim (fun z => absurd z (by omega)) id))]
                have hl : lv_has ls 7 [(5, .int (zI 0)), (0, .ref mo), (1, .int (zI (b : Int))), (2, .int (zI (v : Int))), (3, .int (zI ((lq : Int) - (lp : Int) + 1))), (4, .int (zI ((scSum (wTx w la) (wTx w b) lp v (lq - lp + 1) : Int) + (scAh (wTx w la) (wTx w b) lp v : Int))))] := by rw [hah]; rw [show ((scSum (wTx w la) (wTx w b) lp v (lq - lp + 1) : Int) + ((0 : Nat) : Int)) = (scSum (wTx w la) (wTx w b) lp v (lq - lp + 1) : Int) from Int.add_zero _]; exact hl
                exact KA H locs ls hG (lv_sub hl [1, 2, 3, 4, 5] rfl)
              · refine lv_iinc (v := zI ((scSum (wTx w la) (wTx w b) lp v (lq - lp + 1) : Int) + 2 : Int)) (lv' := [(4, .int (zI ((scSum (wTx w la) (wTx w b) lp v (lq - lp + 1) : Int) + 2 : Int))), (5, .int (zI 0)), (0, .ref mo), (1, .int (zI (b : Int))), (2, .int (zI (v : Int))), (3, .int (zI ((lq : Int) - (lp : Int) + 1)))]) hx hb dX4_score_110 hl (k := 5) rfl ((zI_add _ _).trans (congrArg zI (by omega))) (by decide) rfl (fun ls hl => ?_)
                have hah : scAh (wTx w la) (wTx w b) lp v = 2 := by unfold scAh; rw [if_pos ⟨by omega, Or.inr (hb4.elim (fun z => z.2) (fun z => absurd z.1 (by omega)))⟩]
                have hl : lv_has ls 7 [(4, .int (zI ((scSum (wTx w la) (wTx w b) lp v (lq - lp + 1) : Int) + (scAh (wTx w la) (wTx w b) lp v : Int)))), (5, .int (zI 0)), (0, .ref mo), (1, .int (zI (b : Int))), (2, .int (zI (v : Int))), (3, .int (zI ((lq : Int) - (lp : Int) + 1)))] := by rw [hah]; exact hl
                exact KA H locs ls hG (lv_sub hl [2, 3, 4, 5, 0] rfl)
        · refine lv_iconst (v := zI 1) hx hb dX4_score_76 (by decide +kernel) ?_
          refine lv_goto (tgt := 81) hx hb dX4_score_77 (by decide) ?_
          refine g_cne (tgt := 113) hx hb dX4_score_81 (by decide) (by omega) (fun h9 => ?_) (fun h9 => ?_)
          · have hah : scAh (wTx w la) (wTx w b) lp v = 0 := by unfold scAh; rw [if_neg (by omega)]
            have hl : lv_has ls 7 [(5, .int (zI 0)), (0, .ref mo), (1, .int (zI (b : Int))), (2, .int (zI (v : Int))), (3, .int (zI ((lq : Int) - (lp : Int) + 1))), (4, .int (zI ((scSum (wTx w la) (wTx w b) lp v (lq - lp + 1) : Int) + (scAh (wTx w la) (wTx w b) lp v : Int))))] := by rw [hah]; rw [show ((scSum (wTx w la) (wTx w b) lp v (lq - lp + 1) : Int) + ((0 : Nat) : Int)) = (scSum (wTx w la) (wTx w b) lp v (lq - lp + 1) : Int) from Int.add_zero _]; exact hl
            exact KA H locs ls hG (lv_sub hl [1, 2, 3, 4, 5] rfl)
          · exfalso; omega
      · refine lv_iconst (v := zI 1) hx hb dX4_score_63 (by decide +kernel) ?_
        refine lv_goto (tgt := 68) hx hb dX4_score_64 (by decide) ?_
        refine lv_istore (lv' := [(5, .int (zI 1)), (0, .ref mo), (1, .int (zI (b : Int))), (2, .int (zI (v : Int))), (3, .int (zI ((lq : Int) - (lp : Int) + 1))), (4, .int (zI (scSum (wTx w la) (wTx w b) lp v (lq - lp + 1) : Int)))]) hx hb dX4_score_68 hl (by decide) rfl (fun ls hl => ?_)
        refine lv_iload hx hb dX4_score_70 (lv_at hl 0 rfl) ?_
        refine lv_iload_n hx hb dX4_score_72 rfl (lv_at hl 3 rfl) ?_
        refine g_ne (tgt := 80) hx hb dX4_score_73 (by decide) (by omega) (fun h6 => ?_) (fun h6 => ?_)
        · refine lv_iconst (v := zI 0) hx hb dX4_score_80 (by decide +kernel) ?_
          refine g_cne (tgt := 113) hx hb dX4_score_81 (by decide) (by omega) (fun h9 => ?_) (fun h9 => ?_)
          · have hah : scAh (wTx w la) (wTx w b) lp v = 0 := by unfold scAh; rw [if_neg (by omega)]
            have hl : lv_has ls 7 [(5, .int (zI 1)), (0, .ref mo), (1, .int (zI (b : Int))), (2, .int (zI (v : Int))), (3, .int (zI ((lq : Int) - (lp : Int) + 1))), (4, .int (zI ((scSum (wTx w la) (wTx w b) lp v (lq - lp + 1) : Int) + (scAh (wTx w la) (wTx w b) lp v : Int))))] := by rw [hah]; rw [show ((scSum (wTx w la) (wTx w b) lp v (lq - lp + 1) : Int) + ((0 : Nat) : Int)) = (scSum (wTx w la) (wTx w b) lp v (lq - lp + 1) : Int) from Int.add_zero _]; exact hl
            exact KA H locs ls hG (lv_sub hl [1, 2, 3, 4, 5] rfl)
          · exfalso; omega
        · refine lv_iconst (v := zI 1) hx hb dX4_score_76 (by decide +kernel) ?_
          refine lv_goto (tgt := 81) hx hb dX4_score_77 (by decide) ?_
          refine g_cne (tgt := 113) hx hb dX4_score_81 (by decide) (by omega) (fun h9 => ?_) (fun h9 => ?_)
          · exfalso; omega
          · refine lv_iload hx hb dX4_score_84 (lv_at hl 0 rfl) ?_
            refine g_ne (tgt := 110) hx hb dX4_score_86 (by decide) (by decide) (fun h10 => ?_) (fun h10 => ?_)
            · refine lv_iinc (v := zI ((scSum (wTx w la) (wTx w b) lp v (lq - lp + 1) : Int) + 2 : Int)) (lv' := [(4, .int (zI ((scSum (wTx w la) (wTx w b) lp v (lq - lp + 1) : Int) + 2 : Int))), (5, .int (zI 1)), (0, .ref mo), (1, .int (zI (b : Int))), (2, .int (zI (v : Int))), (3, .int (zI ((lq : Int) - (lp : Int) + 1)))]) hx hb dX4_score_110 hl (k := 5) rfl ((zI_add _ _).trans (congrArg zI (by omega))) (by decide) rfl (fun ls hl => ?_)
              have hah : scAh (wTx w la) (wTx w b) lp v = 2 := by unfold scAh; rw [if_pos (by omega)]
              have hl : lv_has ls 7 [(4, .int (zI ((scSum (wTx w la) (wTx w b) lp v (lq - lp + 1) : Int) + (scAh (wTx w la) (wTx w b) lp v : Int)))), (5, .int (zI 1)), (0, .ref mo), (1, .int (zI (b : Int))), (2, .int (zI (v : Int))), (3, .int (zI ((lq : Int) - (lp : Int) + 1)))] := by rw [hah]; exact hl
              exact KA H locs ls hG (lv_sub hl [2, 3, 4, 5, 0] rfl)
            · exfalso; omega
  · refine lv_aload_n hx hb dX4_score_24 rfl (lv_at hl 0 rfl) ?_
    refine lv_aload_n hx hb dX4_score_25 rfl (lv_at hl 0 rfl) ?_
    refine m_get 34 (by decide) (v := .int (zI (la : Int))) (congrArg (fun z => Value.int (zI z)) (show S.1 34 = (la : Int) from hL.1)) hx hb hts hown hG (hts _ q3330) dX4_score_26 ?_
    refine lv_aload_n hx hb dX4_score_29 rfl (lv_at hl 0 rfl) ?_
    refine m_get 35 (by decide) (v := .int (zI (lp : Int))) (congrArg (fun z => Value.int (zI z)) (show S.1 35 = (lp : Int) from hL.2.1)) hx hb hts hown hG (hts _ q3331) dX4_score_30 ?_
    refine lv_iload hx hb dX4_score_33 (lv_at hl 5 rfl) ?_
    refine g_iadd hx hb dX4_score_35 ?_
    refine lv_iload_n hx hb dX4_score_36 rfl (lv_at hl 1 rfl) ?_
    refine lv_iload_n hx hb dX4_score_37 rfl (lv_at hl 2 rfl) ?_
    refine lv_iload hx hb dX4_score_38 (lv_at hl 5 rfl) ?_
    refine g_iadd hx hb dX4_score_40 ?_
    refine m_ci (va_runV (As := [.int (zI (la : Int)), .int (zI ((lp : Int) + (k : Int))), .int (zI (b : Int)), .int (zI ((v : Int) + (k : Int)))]) (rest := []) ⟨hx, hb, hml, hown, hts⟩ (metX4_isAlike (a := la) (i := (lp + k)) (a2 := b) (j := (v + k)) (by omega)) (cwV 4 hts (lw_V q3509 q3511 qs55 q102 q3512) rfl rfl rfl (by decide +kernel) ⟨Nat.le_of_ble_eq_true rfl, Nat.le_of_ble_eq_true rfl⟩) (m_preV hG) rfl rfl hl.1 rfl (lv_room (Nat.le_of_ble_eq_true rfl)) dX4_score_41 ⟨Nat.le_of_ble_eq_true rfl, Nat.le_of_ble_eq_true rfl⟩) hG (fun r_5 S_6 H locs hp hG => ?_)
    obtain ⟨b3, rfl, hb3, rfl⟩ := hp
    have hG : mW X mo ad S s H locs := hG
    rw [← hR.al hK hL4.1 hb9 (by omega) (by omega), Ne, ← hR.al hK hL4.1 hb9 (by omega) (by omega), alk_iff] at hb3
    refine g_eq (tgt := 50) hx hb dX4_score_44 (by decide) (by omega) (fun h2 => ?_) (fun h2 => ?_)
    · have hl : lv_has ls 7 [(0, .ref mo), (1, .int (zI (b : Int))), (2, .int (zI (v : Int))), (3, .int (zI ((lq : Int) - (lp : Int) + 1))), (4, .int (zI (scSum (wTx w la) (wTx w b) lp v (k + 1) : Int))), (5, .int (zI (k : Int)))] := by rw [show scSum (wTx w la) (wTx w b) lp v (k + 1) = scSum (wTx w la) (wTx w b) lp v k from by rw [scSum, if_neg (hb3.elim (fun q => absurd q.1 (by omega)) (fun q => q.2))]; rfl]; exact hl
      refine lv_iinc (v := zI ((k : Int) + 1 : Int)) (lv' := [(5, .int (zI ((k : Int) + 1 : Int))), (0, .ref mo), (1, .int (zI (b : Int))), (2, .int (zI (v : Int))), (3, .int (zI ((lq : Int) - (lp : Int) + 1))), (4, .int (zI (scSum (wTx w la) (wTx w b) lp v (k + 1) : Int)))]) hx hb dX4_score_50 hl (k := 5) rfl ((zI_add _ _).trans (congrArg zI (by omega))) (by decide) rfl (fun ls hl => ?_)
      have hl : lv_has ls 7 [(5, .int (zI ((k + 1 : Nat) : Int))), (0, .ref mo), (1, .int (zI (b : Int))), (2, .int (zI (v : Int))), (3, .int (zI ((lq : Int) - (lp : Int) + 1))), (4, .int (zI (scSum (wTx w la) (wTx w b) lp v (k + 1) : Int)))] := by exact hl
      refine lv_goto (tgt := 18) hx hb dX4_score_53 (by decide) ?_
      exact ihA ((lq - lp + 1) - (k + 1)) (by omega) H locs ls ⟨(k + 1), ⟨by omega, rfl⟩, hG, (lv_sub hl [1, 2, 3, 4, 5, 0] rfl)⟩
    · refine lv_iinc (v := zI ((scSum (wTx w la) (wTx w b) lp v k : Int) + 3 : Int)) (lv' := [(4, .int (zI ((scSum (wTx w la) (wTx w b) lp v k : Int) + 3 : Int))), (0, .ref mo), (1, .int (zI (b : Int))), (2, .int (zI (v : Int))), (3, .int (zI ((lq : Int) - (lp : Int) + 1))), (5, .int (zI (k : Int)))]) hx hb dX4_score_47 hl (k := 4) rfl ((zI_add _ _).trans (congrArg zI (by omega))) (by decide) rfl (fun ls hl => ?_)
      have hl : lv_has ls 7 [(4, .int (zI (scSum (wTx w la) (wTx w b) lp v (k + 1) : Int))), (0, .ref mo), (1, .int (zI (b : Int))), (2, .int (zI (v : Int))), (3, .int (zI ((lq : Int) - (lp : Int) + 1))), (5, .int (zI (k : Int)))] := by rw [show ((scSum (wTx w la) (wTx w b) lp v (k + 1) : Nat) : Int) = (scSum (wTx w la) (wTx w b) lp v k : Int) + 3 from by rw [scSum, if_pos (hb3.elim (fun q => q.2) (fun q => absurd q.1 (by omega)))]; rfl]; exact hl
      refine lv_iinc (v := zI ((k : Int) + 1 : Int)) (lv' := [(5, .int (zI ((k : Int) + 1 : Int))), (4, .int (zI (scSum (wTx w la) (wTx w b) lp v (k + 1) : Int))), (0, .ref mo), (1, .int (zI (b : Int))), (2, .int (zI (v : Int))), (3, .int (zI ((lq : Int) - (lp : Int) + 1)))]) hx hb dX4_score_50 hl (k := 5) rfl ((zI_add _ _).trans (congrArg zI (by omega))) (by decide) rfl (fun ls hl => ?_)
      have hl : lv_has ls 7 [(5, .int (zI ((k + 1 : Nat) : Int))), (4, .int (zI (scSum (wTx w la) (wTx w b) lp v (k + 1) : Int))), (0, .ref mo), (1, .int (zI (b : Int))), (2, .int (zI (v : Int))), (3, .int (zI ((lq : Int) - (lp : Int) + 1)))] := by exact hl
      refine lv_goto (tgt := 18) hx hb dX4_score_53 (by decide) ?_
      exact ihA ((lq - lp + 1) - (k + 1)) (by omega) H locs ls ⟨(k + 1), ⟨by omega, rfl⟩, hG, (lv_sub hl [2, 3, 4, 5, 1, 0] rfl)⟩

set_option maxHeartbeats 4000000 in
theorem metX4_looks {l : Launch} {X : gX} {mo : Nat} {ad : Nat → Nat} {S : mS} {w : aW} {b la lp lq : Nat} (hR : mRv S w) (hK : wOK w) (hb9 : b < wN w) (hL : mLast S w la lp lq) (hmar : S.2.1 7 2 = (wMar w : Nat)) : Met l yX4_looks (ws_ yX4_looks cX4_looks 4 none) ({ frames := 2, cells := 0, slots := 0, locals := 50 }) (mP X mo ad S [.ref mo, .int (zI (b : Int))]) (mQv X mo ad (fun T => (T.2.1 = S.2.1 ∧ T.2.2 = S.2.2 ∧ ∀ k, k ≠ 38 → k ≠ 39 → k ≠ 40 → T.1 k = S.1 k) ∧ (bsS (sc (wTx w la) (wTx w b) lp lq) (scN (wTx w b) lp lq) = none → T.1 40 = 0) ∧ ∀ b9, bsS (sc (wTx w la) (wTx w b) lp lq) (scN (wTx w b) lp lq) = some b9 → T.1 38 = (b9 : Nat) ∧ T.1 39 = ((sc (wTx w la) (wTx w b) lp lq) b9 : Nat) ∧ T.1 40 = bI (bsC (sc (wTx w la) (wTx w b) lp lq) b9 (wMar w) (scN (wTx w b) lp lq)))) 0 0 (mA mo ad) := by
  refine Met.m (by decide) (Nat.le_of_ble_eq_true rfl) ?_
  intro p e s m below meth c ls hx hb hr hts hown hlocks hml hG hl
  have hl : lv_has ls 4 [(0, .ref mo), (1, .int (zI (b : Int)))] := hl
  have hNN := hK.n
  have hL4 := hL.2.2.2
  have hlL := (hK.tx (r := la) hL4.1).1
  have hlB := (hK.tx (r := b) hb9).1
  have hfN : ∀ v, (sc (wTx w la) (wTx w b) lp lq) v ≤ 1000 := fun v => by have := @sc_le (wTx w la) (wTx w b) lp lq v; omega
  have hN24 : (scN (wTx w b) lp lq) ≤ 24 := by unfold scN; omega
  refine lv_aload_n hx hb dX4_looks_0 rfl (lv_at hl 0 rfl) ?_
  refine lv_iconst (v := zI (-1)) hx hb dX4_looks_1 (by decide +kernel) ?_
  refine m_put 38 (by decide) rfl rfl (tyX4_ok 38 (by decide)) rfl rfl hx hb hts hown hG (hts _ q3334) dX4_looks_2 (fun H locs (hG : mW X mo ad (sI S 38 (-1)) s H locs) => ?_)
  refine lv_aload_n hx hb dX4_looks_5 rfl (lv_at hl 0 rfl) ?_
  refine lv_iconst (v := zI (-1)) hx hb dX4_looks_6 (by decide +kernel) ?_
  refine m_put 39 (by decide) rfl rfl (tyX4_ok 39 (by decide)) rfl rfl hx hb hts hown hG (hts _ q3335) dX4_looks_7 (fun H locs (hG : mW X mo ad (sI (sI S 38 (-1)) 39 (-1)) s H locs) => ?_)
  refine lv_iconst (v := zI 0) hx hb dX4_looks_10 (by decide +kernel) ?_
  refine lv_istore_n (lv' := [(2, .int (zI 0)), (0, .ref mo), (1, .int (zI (b : Int)))]) hx hb dX4_looks_11 rfl hl (by decide) rfl (fun ls hl => ?_)
  refine g_loop (fun mz H locs ls => ∃ (v : Nat) (T : mS), (v ≤ (scN (wTx w b) lp lq) ∧ mz = (scN (wTx w b) lp lq) - v ∧ (T.2.1 = S.2.1 ∧ T.2.2 = S.2.2 ∧ ∀ k, k ≠ 38 → k ≠ 39 → k ≠ 40 → T.1 k = S.1 k) ∧ T.1 38 = oI (bsS (sc (wTx w la) (wTx w b) lp lq) v) ∧ T.1 39 = bsV (sc (wTx w la) (wTx w b) lp lq) v) ∧ mW X mo ad T s H locs ∧ lv_has ls 4 [(0, .ref mo), (1, .int (zI (b : Int))), (2, .int (zI (v : Int)))]) ((scN (wTx w b) lp lq) - 0) ⟨0, (sI (sI S 38 (-1)) 39 (-1)), ⟨Nat.zero_le _, rfl, ⟨rfl, rfl, fun k h1 h2 h3 => (sI_n h2).trans (sI_n h1)⟩, by rw [sI_n (by decide), sI_s]; rfl, by rw [sI_s]; rfl⟩, hG, (lv_sub hl [1, 2, 0] rfl)⟩ (fun mz ihA H locs ls hI => ?_)
  obtain ⟨v, T, ⟨hv9, hmz, hag, hba, hbs⟩, hG, hl⟩ := hI
  have hvr := bsV_R hfN v
  refine lv_iload_n hx hb dX4_looks_12 rfl (lv_at hl 2 rfl) ?_
  refine lv_aload_n hx hb dX4_looks_13 rfl (lv_at hl 0 rfl) ?_
  refine lv_iload_n hx hb dX4_looks_14 rfl (lv_at hl 1 rfl) ?_
  refine m_ci (va_runV (As := [.int (zI (b : Int))]) (rest := [.int (zI (v : Int))]) ⟨hx, hb, hml, hown, hts⟩ (metX4_placesOn (w := w) (b := b) (la := la) (lp := lp) (lq := lq) (hR.cg ⟨congrFun hag.1 1, congrFun hag.1 2, congrFun hag.1 7, congrFun hag.2.1 3⟩) hK hb9 (hL.cg ⟨hag.2.2 34 (by decide) (by decide) (by decide), hag.2.2 35 (by decide) (by decide) (by decide), hag.2.2 36 (by decide) (by decide) (by decide)⟩)) (cwV 1 hts (lw_V q3636 q3638 qs73 q102 q3639) rfl rfl rfl (by decide +kernel) ⟨Nat.le_of_ble_eq_true rfl, Nat.le_of_ble_eq_true rfl⟩) (m_preV hG) rfl rfl hl.1 rfl (lv_room (Nat.le_of_ble_eq_true rfl)) dX4_looks_15 ⟨Nat.le_of_ble_eq_true rfl, Nat.le_of_ble_eq_true rfl⟩) hG (fun r_1 S_2 H locs hp hG => ?_)
  obtain ⟨rfl, rfl⟩ := hp
  have hG : mW X mo ad T s H locs := hG
  refine g_cge (tgt := 55) hx hb dX4_looks_18 (by decide) (by omega) (fun h1 => ?_) (fun h1 => ?_)
  · have hvn : v = (scN (wTx w b) lp lq) := by omega
    rw [hvn] at hba hbs
    rcases hbS : bsS (sc (wTx w la) (wTx w b) lp lq) (scN (wTx w b) lp lq) with _ | b9
    · rw [hbS] at hba
      have hba2 : T.1 38 = oI (bsS (sc (wTx w la) (wTx w b) lp lq) (scN (wTx w b) lp lq)) := by rw [hbS]; exact hba
      refine lv_aload_n hx hb dX4_looks_55 rfl (lv_at hl 0 rfl) ?_
      refine lv_aload_n hx hb dX4_looks_56 rfl (lv_at hl 0 rfl) ?_
      refine m_get 38 (by decide) (v := .int (zI (-1))) (congrArg (fun z => Value.int (zI z)) (show T.1 38 = (-1) from hba)) hx hb hts hown hG (hts _ q3334) dX4_looks_57 ?_
      refine lv_iconst (v := zI (-1)) hx hb dX4_looks_60 (by decide +kernel) ?_
      refine g_ceq (tgt := 68) hx hb dX4_looks_61 (by decide) (by omega) (fun h3 => ?_) (fun h3 => ?_)
      · replace hba := hba2
        refine lv_iconst (v := zI 0) hx hb dX4_looks_68 (by decide +kernel) ?_
        refine m_put 40 (by decide) rfl rfl (tyX4_ok 40 (by decide)) (by first | rfl | decide +kernel) (by first | rfl | decide +kernel) hx hb hts hown hG (hts _ q3336) dX4_looks_69 (fun H locs (hG : mW X mo ad (sI T 40 0) s H locs) => ?_)
        refine lv_iconst (v := zI 0) hx hb dX4_looks_72 (by decide +kernel) ?_
        refine lv_istore_n (lv' := [(2, .int (zI 0)), (0, .ref mo), (1, .int (zI (b : Int)))]) hx hb dX4_looks_73 rfl hl (by decide) rfl (fun ls hl => ?_)
        refine g_loop (fun mz H locs ls => ∃ (v : Nat) (T : mS), (v ≤ (scN (wTx w b) lp lq) ∧ mz = (scN (wTx w b) lp lq) - v ∧ (T.2.1 = S.2.1 ∧ T.2.2 = S.2.2 ∧ ∀ k, k ≠ 38 → k ≠ 39 → k ≠ 40 → T.1 k = S.1 k) ∧ T.1 38 = oI (bsS (sc (wTx w la) (wTx w b) lp lq) (scN (wTx w b) lp lq)) ∧ T.1 39 = bsV (sc (wTx w la) (wTx w b) lp lq) (scN (wTx w b) lp lq) ∧ T.1 40 = 0) ∧ mW X mo ad T s H locs ∧ lv_has ls 4 [(0, .ref mo), (1, .int (zI (b : Int))), (2, .int (zI (v : Int)))]) ((scN (wTx w b) lp lq) - 0) ⟨0, (sI T 40 0), ⟨Nat.zero_le _, rfl, ⟨hag.1, hag.2.1, fun k h1 h2 h3 => (sI_n h3).trans (hag.2.2 k h1 h2 h3)⟩, (sI_n (by decide)).trans hba, (sI_n (by decide)).trans hbs, sI_s⟩, hG, (lv_sub hl [1, 2, 0] rfl)⟩ (fun mz ihB H locs ls hI => ?_)
        obtain ⟨v, T, ⟨hv9, hmz, hag, hba, hbs, hcl⟩, hG, hl⟩ := hI
        refine lv_iload_n hx hb dX4_looks_74 rfl (lv_at hl 2 rfl) ?_
        refine lv_aload_n hx hb dX4_looks_75 rfl (lv_at hl 0 rfl) ?_
        refine lv_iload_n hx hb dX4_looks_76 rfl (lv_at hl 1 rfl) ?_
        refine m_ci (va_runV (As := [.int (zI (b : Int))]) (rest := [.int (zI (v : Int))]) ⟨hx, hb, hml, hown, hts⟩ (metX4_placesOn (w := w) (b := b) (la := la) (lp := lp) (lq := lq) (hR.cg ⟨congrFun hag.1 1, congrFun hag.1 2, congrFun hag.1 7, congrFun hag.2.1 3⟩) hK hb9 (hL.cg ⟨hag.2.2 34 (by decide) (by decide) (by decide), hag.2.2 35 (by decide) (by decide) (by decide), hag.2.2 36 (by decide) (by decide) (by decide)⟩)) (cwV 1 hts (lw_V q3636 q3638 qs73 q102 q3639) rfl rfl rfl (by decide +kernel) ⟨Nat.le_of_ble_eq_true rfl, Nat.le_of_ble_eq_true rfl⟩) (m_preV hG) rfl rfl hl.1 rfl (lv_room (Nat.le_of_ble_eq_true rfl)) dX4_looks_77 ⟨Nat.le_of_ble_eq_true rfl, Nat.le_of_ble_eq_true rfl⟩) hG (fun r_3 S_4 H locs hp hG => ?_)
        obtain ⟨rfl, rfl⟩ := hp
        have hG : mW X mo ad T s H locs := hG
        refine g_cge (tgt := 122) hx hb dX4_looks_80 (by decide) (by omega) (fun h4 => ?_) (fun h4 => ?_)
        · have hvn : v = (scN (wTx w b) lp lq) := by omega
          subst hvn
          exact m_vret hx hb hr hlocks hG (⟨hag, fun _ => hcl, fun b8 q => by first | cases q | (rw [hbS] at q; cases q)⟩) ⟨Nat.le_of_ble_eq_true rfl, Nat.le_of_ble_eq_true rfl⟩ dX4_looks_122
        · have hvN : v < (scN (wTx w b) lp lq) := by omega
          exact absurd ((bsS_none _).mp hbS) (by omega)
      · exfalso; omega
    · have hbN := bsS_some _ _ hbS
      have hf9 := hfN b9
      rw [hbS, oI_some] at hba
      have hbs : T.1 39 = ((sc (wTx w la) (wTx w b) lp lq) b9 : Nat) := by rw [hbs]; unfold bsV; rw [hbS]
      refine lv_aload_n hx hb dX4_looks_55 rfl (lv_at hl 0 rfl) ?_
      refine lv_aload_n hx hb dX4_looks_56 rfl (lv_at hl 0 rfl) ?_
      refine m_get 38 (by decide) (v := .int (zI (b9 : Int))) (congrArg (fun z => Value.int (zI z)) (show T.1 38 = (b9 : Int) from hba)) hx hb hts hown hG (hts _ q3334) dX4_looks_57 ?_
      refine lv_iconst (v := zI (-1)) hx hb dX4_looks_60 (by decide +kernel) ?_
      refine g_ceq (tgt := 68) hx hb dX4_looks_61 (by decide) (by omega) (fun h3 => ?_) (fun h3 => ?_)
      · exfalso; omega
      · refine lv_iconst (v := zI 1) hx hb dX4_looks_64 (by decide +kernel) ?_
        refine lv_goto (tgt := 69) hx hb dX4_looks_65 (by decide) ?_
        refine m_put 40 (by decide) rfl rfl (tyX4_ok 40 (by decide)) (by first | rfl | decide +kernel) (by first | rfl | decide +kernel) hx hb hts hown hG (hts _ q3336) dX4_looks_69 (fun H locs (hG : mW X mo ad (sI T 40 1) s H locs) => ?_)
        refine lv_iconst (v := zI 0) hx hb dX4_looks_72 (by decide +kernel) ?_
        refine lv_istore_n (lv' := [(2, .int (zI 0)), (0, .ref mo), (1, .int (zI (b : Int)))]) hx hb dX4_looks_73 rfl hl (by decide) rfl (fun ls hl => ?_)
        refine g_loop (fun mz H locs ls => ∃ (v : Nat) (T : mS), (v ≤ (scN (wTx w b) lp lq) ∧ mz = (scN (wTx w b) lp lq) - v ∧ (T.2.1 = S.2.1 ∧ T.2.2 = S.2.2 ∧ ∀ k, k ≠ 38 → k ≠ 39 → k ≠ 40 → T.1 k = S.1 k) ∧ T.1 38 = (b9 : Nat) ∧ T.1 39 = ((sc (wTx w la) (wTx w b) lp lq) b9 : Nat) ∧ T.1 40 = bI (bsC (sc (wTx w la) (wTx w b) lp lq) b9 (wMar w) v)) ∧ mW X mo ad T s H locs ∧ lv_has ls 4 [(0, .ref mo), (1, .int (zI (b : Int))), (2, .int (zI (v : Int)))]) ((scN (wTx w b) lp lq) - 0) ⟨0, (sI T 40 1), ⟨Nat.zero_le _, rfl, ⟨hag.1, hag.2.1, fun k h1 h2 h3 => (sI_n h3).trans (hag.2.2 k h1 h2 h3)⟩, (sI_n (by decide)).trans hba, (sI_n (by decide)).trans hbs, sI_s⟩, hG, (lv_sub hl [1, 2, 0] rfl)⟩ (fun mz ihB H locs ls hI => ?_)
        obtain ⟨v, T, ⟨hv9, hmz, hag, hba, hbs, hcl⟩, hG, hl⟩ := hI
        refine lv_iload_n hx hb dX4_looks_74 rfl (lv_at hl 2 rfl) ?_
        refine lv_aload_n hx hb dX4_looks_75 rfl (lv_at hl 0 rfl) ?_
        refine lv_iload_n hx hb dX4_looks_76 rfl (lv_at hl 1 rfl) ?_
        refine m_ci (va_runV (As := [.int (zI (b : Int))]) (rest := [.int (zI (v : Int))]) ⟨hx, hb, hml, hown, hts⟩ (metX4_placesOn (w := w) (b := b) (la := la) (lp := lp) (lq := lq) (hR.cg ⟨congrFun hag.1 1, congrFun hag.1 2, congrFun hag.1 7, congrFun hag.2.1 3⟩) hK hb9 (hL.cg ⟨hag.2.2 34 (by decide) (by decide) (by decide), hag.2.2 35 (by decide) (by decide) (by decide), hag.2.2 36 (by decide) (by decide) (by decide)⟩)) (cwV 1 hts (lw_V q3636 q3638 qs73 q102 q3639) rfl rfl rfl (by decide +kernel) ⟨Nat.le_of_ble_eq_true rfl, Nat.le_of_ble_eq_true rfl⟩) (m_preV hG) rfl rfl hl.1 rfl (lv_room (Nat.le_of_ble_eq_true rfl)) dX4_looks_77 ⟨Nat.le_of_ble_eq_true rfl, Nat.le_of_ble_eq_true rfl⟩) hG (fun r_5 S_6 H locs hp hG => ?_)
        obtain ⟨rfl, rfl⟩ := hp
        have hG : mW X mo ad T s H locs := hG
        refine g_cge (tgt := 122) hx hb dX4_looks_80 (by decide) (by omega) (fun h4 => ?_) (fun h4 => ?_)
        · have hvn : v = (scN (wTx w b) lp lq) := by omega
          subst hvn
          exact m_vret hx hb hr hlocks hG (⟨hag, (fun q => by first | cases q | (rw [hbS] at q; cases q)), fun b8 q => by (first | cases q | (rw [hbS] at q; cases q)); exact ⟨hba, hbs, hcl⟩⟩) ⟨Nat.le_of_ble_eq_true rfl, Nat.le_of_ble_eq_true rfl⟩ dX4_looks_122
        · have hvN : v < (scN (wTx w b) lp lq) := by omega
          refine lv_iload_n hx hb dX4_looks_83 rfl (lv_at hl 2 rfl) ?_
          refine lv_aload_n hx hb dX4_looks_84 rfl (lv_at hl 0 rfl) ?_
          refine m_get 38 (by decide) (v := .int (zI (b9 : Int))) (congrArg (fun z => Value.int (zI z)) (show T.1 38 = (b9 : Int) from hba)) hx hb hts hown hG (hts _ q3334) dX4_looks_85 ?_
          refine g_ceq (tgt := 116) hx hb dX4_looks_88 (by decide) (by omega) (fun h6 => ?_) (fun h6 => ?_)
          · refine lv_iinc (v := zI ((v : Int) + 1 : Int)) (lv' := [(2, .int (zI ((v : Int) + 1 : Int))), (0, .ref mo), (1, .int (zI (b : Int)))]) hx hb dX4_looks_116 hl (k := 2) rfl ((zI_add _ _).trans (congrArg zI (by omega))) (by decide) rfl (fun ls hl => ?_)
            refine lv_goto (tgt := 74) hx hb dX4_looks_119 (by decide) ?_
            exact ihB ((scN (wTx w b) lp lq) - (v + 1)) (by omega) H locs ls ⟨(v + 1), T, ⟨by omega, rfl, hag, hba, hbs, by rw [bsC, decide_eq_true (by omega : v = b9 ∨ (sc (wTx w la) (wTx w b) lp lq) v + wMar w ≤ (sc (wTx w la) (wTx w b) lp lq) b9), Bool.and_true]; exact hcl⟩, hG, (lv_sub hl [1, 2, 0] rfl)⟩
          · refine lv_aload_n hx hb dX4_looks_91 rfl (lv_at hl 0 rfl) ?_
            refine m_get 39 (by decide) (v := .int (zI ((sc (wTx w la) (wTx w b) lp lq) b9 : Int))) (congrArg (fun z => Value.int (zI z)) (show T.1 39 = ((sc (wTx w la) (wTx w b) lp lq) b9 : Int) from hbs)) hx hb hts hown hG (hts _ q3335) dX4_looks_92 ?_
            refine lv_aload_n hx hb dX4_looks_95 rfl (lv_at hl 0 rfl) ?_
            refine lv_iload_n hx hb dX4_looks_96 rfl (lv_at hl 1 rfl) ?_
            refine lv_iload_n hx hb dX4_looks_97 rfl (lv_at hl 2 rfl) ?_
            refine m_ci (va_runV (As := [.int (zI (b : Int)), .int (zI (v : Int))]) (rest := [.int (zI ((sc (wTx w la) (wTx w b) lp lq) b9 : Int))]) ⟨hx, hb, hml, hown, hts⟩ (metX4_score (w := w) (b := b) (la := la) (lp := lp) (lq := lq) (v := v) (hR.cg ⟨congrFun hag.1 1, congrFun hag.1 2, congrFun hag.1 7, congrFun hag.2.1 3⟩) hK hb9 (hL.cg ⟨hag.2.2 34 (by decide) (by decide) (by decide), hag.2.2 35 (by decide) (by decide) (by decide), hag.2.2 36 (by decide) (by decide) (by decide)⟩) (by have := hvN; unfold scN at this; omega)) (cwV 2 hts (lw_V q3640 q3642 qs74 q102 q3643) rfl rfl rfl (by decide +kernel) ⟨Nat.le_of_ble_eq_true rfl, Nat.le_of_ble_eq_true rfl⟩) (m_preV hG) rfl rfl hl.1 rfl (lv_room (Nat.le_of_ble_eq_true rfl)) dX4_looks_98 ⟨Nat.le_of_ble_eq_true rfl, Nat.le_of_ble_eq_true rfl⟩) hG (fun r_7 S_8 H locs hp hG => ?_)
            obtain ⟨rfl, rfl⟩ := hp
            have hG : mW X mo ad T s H locs := hG
            have hf1 := hfN v
            have hf2 := hfN b9
            have hmr := hK.ru
            refine g_isub hx hb dX4_looks_101 ?_
            refine lv_aload_n hx hb dX4_looks_102 rfl (lv_at hl 0 rfl) ?_
            refine m_get 7 (by decide) (v := .ref (ad 7)) rfl hx hb hts hown hG (hts _ q3303) dX4_looks_103 ?_
            refine lv_iconst (v := zI 2) hx hb dX4_looks_106 (by decide +kernel) ?_
            refine m_iald 7 rfl rfl (by decide) 2 (v := (wMar w : Int)) ⟨by omega, by show _ < 3; omega⟩ (show T.2.1 7 2 = (wMar w : Int) from ((congrFun (congrFun hag.1 7) 2).trans hmar)) hx hb hG dX4_looks_107 ?_
            refine g_cge (tgt := 116) hx hb dX4_looks_108 (by decide) (by omega) (fun h5 => ?_) (fun h5 => ?_)
            · refine lv_iinc (v := zI ((v : Int) + 1 : Int)) (lv' := [(2, .int (zI ((v : Int) + 1 : Int))), (0, .ref mo), (1, .int (zI (b : Int)))]) hx hb dX4_looks_116 hl (k := 2) rfl ((zI_add _ _).trans (congrArg zI (by omega))) (by decide) rfl (fun ls hl => ?_)
              refine lv_goto (tgt := 74) hx hb dX4_looks_119 (by decide) ?_
              exact ihB ((scN (wTx w b) lp lq) - (v + 1)) (by omega) H locs ls ⟨(v + 1), T, ⟨by omega, rfl, hag, hba, hbs, by rw [bsC, decide_eq_true (by omega : v = b9 ∨ (sc (wTx w la) (wTx w b) lp lq) v + wMar w ≤ (sc (wTx w la) (wTx w b) lp lq) b9), Bool.and_true]; exact hcl⟩, hG, (lv_sub hl [1, 2, 0] rfl)⟩
            · refine lv_aload_n hx hb dX4_looks_111 rfl (lv_at hl 0 rfl) ?_
              refine lv_iconst (v := zI 0) hx hb dX4_looks_112 (by decide +kernel) ?_
              refine m_put 40 (by decide) rfl rfl (tyX4_ok 40 (by decide)) (by first | rfl | decide +kernel) (by first | rfl | decide +kernel) hx hb hts hown hG (hts _ q3336) dX4_looks_113 (fun H locs (hG : mW X mo ad (sI T 40 0) s H locs) => ?_)
              refine lv_iinc (v := zI ((v : Int) + 1 : Int)) (lv' := [(2, .int (zI ((v : Int) + 1 : Int))), (0, .ref mo), (1, .int (zI (b : Int)))]) hx hb dX4_looks_116 hl (k := 2) rfl ((zI_add _ _).trans (congrArg zI (by omega))) (by decide) rfl (fun ls hl => ?_)
              refine lv_goto (tgt := 74) hx hb dX4_looks_119 (by decide) ?_
              exact ihB ((scN (wTx w b) lp lq) - (v + 1)) (by omega) H locs ls ⟨(v + 1), (sI T 40 0), ⟨by omega, rfl, ⟨hag.1, hag.2.1, fun k h1 h2 h3 => (sI_n h3).trans (hag.2.2 k h1 h2 h3)⟩, (sI_n (by decide)).trans hba, (sI_n (by decide)).trans hbs, by rw [sI_s, bsC, decide_eq_false (by omega : ¬ (v = b9 ∨ (sc (wTx w la) (wTx w b) lp lq) v + wMar w ≤ (sc (wTx w la) (wTx w b) lp lq) b9)), Bool.and_false]; rfl⟩, hG, (lv_sub hl [1, 2, 0] rfl)⟩
  · have hvN : v < (scN (wTx w b) lp lq) := by omega
    have hf1 := hfN v
    refine lv_aload_n hx hb dX4_looks_21 rfl (lv_at hl 0 rfl) ?_
    refine lv_iload_n hx hb dX4_looks_22 rfl (lv_at hl 1 rfl) ?_
    refine lv_iload_n hx hb dX4_looks_23 rfl (lv_at hl 2 rfl) ?_
    refine m_ci (va_runV (As := [.int (zI (b : Int)), .int (zI (v : Int))]) (rest := []) ⟨hx, hb, hml, hown, hts⟩ (metX4_score (w := w) (b := b) (la := la) (lp := lp) (lq := lq) (v := v) (hR.cg ⟨congrFun hag.1 1, congrFun hag.1 2, congrFun hag.1 7, congrFun hag.2.1 3⟩) hK hb9 (hL.cg ⟨hag.2.2 34 (by decide) (by decide) (by decide), hag.2.2 35 (by decide) (by decide) (by decide), hag.2.2 36 (by decide) (by decide) (by decide)⟩) (by have := hvN; unfold scN at this; omega)) (cwV 2 hts (lw_V q3640 q3642 qs74 q102 q3643) rfl rfl rfl (by decide +kernel) ⟨Nat.le_of_ble_eq_true rfl, Nat.le_of_ble_eq_true rfl⟩) (m_preV hG) rfl rfl hl.1 rfl (lv_room (Nat.le_of_ble_eq_true rfl)) dX4_looks_24 ⟨Nat.le_of_ble_eq_true rfl, Nat.le_of_ble_eq_true rfl⟩) hG (fun r_9 S_10 H locs hp hG => ?_)
    obtain ⟨rfl, rfl⟩ := hp
    have hG : mW X mo ad T s H locs := hG
    refine lv_istore_n (lv' := [(3, .int (zI ((sc (wTx w la) (wTx w b) lp lq) v : Int))), (0, .ref mo), (1, .int (zI (b : Int))), (2, .int (zI (v : Int)))]) hx hb dX4_looks_27 rfl hl (by decide) rfl (fun ls hl => ?_)
    refine lv_iload_n hx hb dX4_looks_28 rfl (lv_at hl 0 rfl) ?_
    refine lv_aload_n hx hb dX4_looks_29 rfl (lv_at hl 1 rfl) ?_
    refine m_get 39 (by decide) (v := .int (zI (bsV (sc (wTx w la) (wTx w b) lp lq) v))) (congrArg (fun z => Value.int (zI z)) (show T.1 39 = (bsV (sc (wTx w la) (wTx w b) lp lq) v) from hbs)) hx hb hts hown hG (hts _ q3335) dX4_looks_30 ?_
    refine g_cgt (tgt := 39) hx hb dX4_looks_33 (by decide) (by omega) (fun h2 => ?_) (fun h2 => ?_)
    · obtain ⟨e1, e2⟩ := bsV_up h2
      refine lv_aload_n hx hb dX4_looks_39 rfl (lv_at hl 1 rfl) ?_
      refine lv_iload_n hx hb dX4_looks_40 rfl (lv_at hl 0 rfl) ?_
      refine m_put 39 (by decide) rfl rfl (tyX4_ok 39 (by decide)) rfl rfl hx hb hts hown hG (hts _ q3335) dX4_looks_41 (fun H locs (hG : mW X mo ad (sI T 39 ((sc (wTx w la) (wTx w b) lp lq) v : Int)) s H locs) => ?_)
      refine lv_aload_n hx hb dX4_looks_44 rfl (lv_at hl 1 rfl) ?_
      refine lv_iload_n hx hb dX4_looks_45 rfl (lv_at hl 3 rfl) ?_
      refine m_put 38 (by decide) rfl rfl (tyX4_ok 38 (by decide)) rfl rfl hx hb hts hown hG (hts _ q3334) dX4_looks_46 (fun H locs (hG : mW X mo ad (sI (sI T 39 ((sc (wTx w la) (wTx w b) lp lq) v : Int)) 38 (v : Int)) s H locs) => ?_)
      refine lv_iinc (v := zI ((v : Int) + 1 : Int)) (lv' := [(2, .int (zI ((v : Int) + 1 : Int))), (3, .int (zI ((sc (wTx w la) (wTx w b) lp lq) v : Int))), (0, .ref mo), (1, .int (zI (b : Int)))]) hx hb dX4_looks_49 hl (k := 3) rfl ((zI_add _ _).trans (congrArg zI (by omega))) (by decide) rfl (fun ls hl => ?_)
      refine lv_goto (tgt := 12) hx hb dX4_looks_52 (by decide) ?_
      exact ihA ((scN (wTx w b) lp lq) - (v + 1)) (by omega) H locs ls ⟨(v + 1), (sI (sI T 39 ((sc (wTx w la) (wTx w b) lp lq) v : Int)) 38 (v : Int)), ⟨by omega, rfl, ⟨hag.1, hag.2.1, fun k h1 h2 h3 => (sI_n h1).trans ((sI_n h2).trans (hag.2.2 k h1 h2 h3))⟩, by rw [sI_s, e1]; rfl, by rw [sI_n (by decide), sI_s, e2]⟩, hG, (lv_sub hl [2, 3, 0] rfl)⟩
    · obtain ⟨e1, e2⟩ := bsV_no h2
      refine lv_goto (tgt := 49) hx hb dX4_looks_36 (by decide) ?_
      refine lv_iinc (v := zI ((v : Int) + 1 : Int)) (lv' := [(2, .int (zI ((v : Int) + 1 : Int))), (3, .int (zI ((sc (wTx w la) (wTx w b) lp lq) v : Int))), (0, .ref mo), (1, .int (zI (b : Int)))]) hx hb dX4_looks_49 hl (k := 3) rfl ((zI_add _ _).trans (congrArg zI (by omega))) (by decide) rfl (fun ls hl => ?_)
      refine lv_goto (tgt := 12) hx hb dX4_looks_52 (by decide) ?_
      exact ihA ((scN (wTx w b) lp lq) - (v + 1)) (by omega) H locs ls ⟨(v + 1), T, ⟨by omega, rfl, hag, by rw [e1]; exact hba, by rw [e2]; exact hbs⟩, hG, (lv_sub hl [2, 3, 0] rfl)⟩

