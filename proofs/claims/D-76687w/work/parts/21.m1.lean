set_option maxRecDepth 100000
set_option maxHeartbeats 4000000 in
theorem metX4_within {l : Launch} {X : gX} {mo : Nat} {ad : Nat → Nat} {S : mS} {v lo hi : Int} (hv : -2147483648 ≤ v ∧ v < 2147483648 ∧ -2147483648 ≤ lo ∧ lo < 2147483648 ∧ -2147483648 ≤ hi ∧ hi < 2147483648) : Met l yX4_within (ws_ yX4_within cX4_within 3 (some FieldType.boolean)) ({ frames := 0, cells := 0, slots := 0, locals := 0 }) (mP X mo ad S [.int (zI v), .int (zI lo), .int (zI hi)]) (mQi X mo ad (fun u T => ∃ b : Int, u = zI b ∧ ((b = 1 ∧ (lo ≤ v ∧ v ≤ hi)) ∨ (b = 0 ∧ (v < lo ∨ hi < v))) ∧ S = T)) 0 0 (mA mo ad) := by
  refine Met.m (by decide) (Nat.le_of_ble_eq_true rfl) ?_
  intro p e s m below meth c ls hx hb hr hts hown hlocks hml hG hl
  have hl : lv_has ls 3 [(0, .int (zI v)), (1, .int (zI lo)), (2, .int (zI hi))] := hl
  refine g_join (σ := Int) 15 (fun b => (b = 1 ∧ (lo ≤ v ∧ v ≤ hi)) ∨ (b = 0 ∧ (v < lo ∨ hi < v))) (fun b => [.int (zI b)]) (fun b hJ => ?_) (fun K => ?_)
  · exact m_zret hx hb hr hlocks (by rcases hJ with ⟨rfl, -⟩ | ⟨rfl, -⟩ <;> rfl) hG (⟨b, rfl, hJ, rfl⟩) ⟨Nat.le_of_ble_eq_true rfl, Nat.le_of_ble_eq_true rfl⟩ dX4_within_15
  · refine lv_iload_n hx hb dX4_within_0 rfl (lv_at hl 0 rfl) ?_
    refine lv_iload_n hx hb dX4_within_1 rfl (lv_at hl 1 rfl) ?_
    refine g_clt (tgt := 14) hx hb dX4_within_2 (by decide) (by omega) (fun h1 => ?_) (fun h1 => ?_)
    · refine lv_iconst (v := zI 0) hx hb dX4_within_14 (by decide +kernel) ?_
      exact K 0 (Or.inr ⟨rfl, by omega⟩)
    · refine lv_iload_n hx hb dX4_within_5 rfl (lv_at hl 0 rfl) ?_
      refine lv_iload_n hx hb dX4_within_6 rfl (lv_at hl 2 rfl) ?_
      refine g_cgt (tgt := 14) hx hb dX4_within_7 (by decide) (by omega) (fun h2 => ?_) (fun h2 => ?_)
      · refine lv_iconst (v := zI 0) hx hb dX4_within_14 (by decide +kernel) ?_
        exact K 0 (Or.inr ⟨rfl, by omega⟩)
      · refine lv_iconst (v := zI 1) hx hb dX4_within_10 (by decide +kernel) ?_
        refine lv_goto (tgt := 15) hx hb dX4_within_11 (by decide) ?_
        exact K 1 (Or.inl ⟨rfl, by omega⟩)

def mNo (S : mS) (j : Nat) : mS := sA S 15 j (S.2.1 15 j + 1)

set_option maxHeartbeats 4000000 in
theorem metX4_no {l : Launch} {X : gX} {mo : Nat} {ad : Nat → Nat} {S : mS} (j : Nat) (hj : j < 8) : Met l yX4_no (ws_ yX4_no cX4_no 2 (some FieldType.int)) ({ frames := 0, cells := 0, slots := 0, locals := 0 }) (mP X mo ad S [.ref mo, .int (zI (-(j : Int)))]) (mQi X mo ad (fun u T => u = zI (-(j : Int)) ∧ mNo S j = T)) 0 0 (mA mo ad) := by
  refine Met.m (by decide) (Nat.le_of_ble_eq_true rfl) ?_
  intro p e s m below meth c ls hx hb hr hts hown hlocks hml hG hl
  have hl : lv_has ls 2 [(0, .ref mo), (1, .int (zI (-(j : Int))))] := hl
  refine lv_aload_n hx hb dX4_no_0 rfl (lv_at hl 0 rfl) ?_
  refine m_get 15 (by decide) (v := .ref (ad 15)) rfl hx hb hts hown hG (hts _ q3311) dX4_no_1 ?_
  refine lv_iload_n hx hb dX4_no_4 rfl (lv_at hl 1 rfl) ?_
  refine g_ineg hx hb dX4_no_5 ?_
  refine g_topz (y := (j : Int)) (by omega) ?_
  refine lv_dup2_11 hx hb dX4_no_6 rfl rfl ?_
  refine m_iald 15 rfl rfl (by decide) j (v := S.2.1 15 j) ⟨by omega, by show _ < 8; omega⟩ rfl hx hb hG dX4_no_7 ?_
  refine lv_iconst (v := zI 1) hx hb dX4_no_8 (by decide +kernel) ?_
  refine g_iadd hx hb dX4_no_9 ?_
  refine m_iast 15 rfl rfl (by decide) j ⟨by omega, by show _ < 8; omega⟩ hx hb hG dX4_no_10 (fun H locs (hG : mW X mo ad (sA S 15 j (S.2.1 15 j + 1)) s H locs) => ?_)
  refine lv_iload_n hx hb dX4_no_11 rfl (lv_at hl 1 rfl) ?_
  exact m_iret hx hb hr hlocks hG (⟨rfl, rfl⟩) ⟨Nat.le_of_ble_eq_true rfl, Nat.le_of_ble_eq_true rfl⟩ dX4_no_12

set_option maxHeartbeats 4000000 in
theorem metX4_no10 {l : Launch} {X : gX} {mo : Nat} {ad : Nat → Nat} {S : mS} (j : Nat) (hj : j < 8) : Met l yX4_no10 (ws_ yX4_no10 cX4_no10 2 (some FieldType.int)) ({ frames := 1, cells := 0, slots := 0, locals := 21 }) (mP X mo ad S [.ref mo, .int (zI (-(j : Int)))]) (mQi X mo ad (fun u T => u = zI (-(j : Int) - 10) ∧ mNo S j = T)) 0 0 (mA mo ad) := by
  refine Met.m (by decide) (Nat.le_of_ble_eq_true rfl) ?_
  intro p e s m below meth c ls hx hb hr hts hown hlocks hml hG hl
  have hl : lv_has ls 2 [(0, .ref mo), (1, .int (zI (-(j : Int))))] := hl
  refine lv_aload_n hx hb dX4_no10_0 rfl (lv_at hl 0 rfl) ?_
  refine lv_iload_n hx hb dX4_no10_1 rfl (lv_at hl 1 rfl) ?_
  refine m_ci (va_runV (As := [.int (zI (-(j : Int)))]) (rest := []) ⟨hx, hb, hml, hown, hts⟩ (metX4_no j hj) (cwV 1 hts (lw_V q3427 q3429 qs43 q102 q3430) rfl rfl rfl (by decide +kernel) ⟨Nat.le_of_ble_eq_true rfl, Nat.le_of_ble_eq_true rfl⟩) (m_preV hG) rfl rfl hl.1 rfl (lv_room (Nat.le_of_ble_eq_true rfl)) dX4_no10_2 ⟨Nat.le_of_ble_eq_true rfl, Nat.le_of_ble_eq_true rfl⟩) hG (fun r_1 S_2 H locs hp hG => ?_)
  obtain ⟨rfl, rfl⟩ := hp
  have hG : mW X mo ad (mNo S j) s H locs := hG
  refine lv_bipush (v := zI 10) hx hb dX4_no10_5 (by decide +kernel) ?_
  refine g_isub hx hb dX4_no10_7 ?_
  exact m_iret hx hb hr hlocks hG (⟨rfl, rfl⟩) ⟨Nat.le_of_ble_eq_true rfl, Nat.le_of_ble_eq_true rfl⟩ dX4_no10_8

set_option maxHeartbeats 4000000 in
theorem metX4_isRevision {l : Launch} {X : gX} {mo : Nat} {ad : Nat → Nat} {S : mS} {r : Int} (hr0 : -2147483648 ≤ r ∧ r < 2147483648) (hS : 0 ≤ S.1 0 ∧ S.1 0 ≤ 16) : Met l yX4_isRevision (ws_ yX4_isRevision cX4_isRevision 2 (some FieldType.boolean)) ({ frames := 1, cells := 0, slots := 0, locals := 22 }) (mP X mo ad S [.ref mo, .int (zI r)]) (mQi X mo ad (fun u T => ∃ b : Int, u = zI b ∧ ((b = 1 ∧ (0 ≤ r ∧ r < S.1 0)) ∨ (b = 0 ∧ (r < 0 ∨ S.1 0 ≤ r))) ∧ S = T)) 0 0 (mA mo ad) := by
  refine Met.m (by decide) (Nat.le_of_ble_eq_true rfl) ?_
  intro p e s m below meth c ls hx hb hr hts hown hlocks hml hG hl
  have hl : lv_has ls 2 [(0, .ref mo), (1, .int (zI r))] := hl
  refine lv_iload_n hx hb dX4_isRevision_0 rfl (lv_at hl 1 rfl) ?_
  refine lv_iconst (v := zI 0) hx hb dX4_isRevision_1 (by decide +kernel) ?_
  refine lv_aload_n hx hb dX4_isRevision_2 rfl (lv_at hl 0 rfl) ?_
  refine m_get 0 (by decide) (v := .int (zI (S.1 0))) rfl hx hb hts hown hG (hts _ q3296) dX4_isRevision_3 ?_
  refine lv_iconst (v := zI 1) hx hb dX4_isRevision_6 (by decide +kernel) ?_
  refine g_isub hx hb dX4_isRevision_7 ?_
  refine m_ci (va_runS (As := [.int (zI r), .int (zI 0), .int (zI (S.1 0 - 1))]) (rest := []) ⟨hx, hb, hml, hown, hts⟩ (metX4_within (by omega)) (va_cwS 3 hts (lw_S q3424 q3425 q102 q3426) rfl rfl rfl (by decide +kernel) ⟨Nat.le_of_ble_eq_true rfl, Nat.le_of_ble_eq_true rfl⟩) (m_preS hG) rfl rfl hl.1 rfl (lv_room (Nat.le_of_ble_eq_true rfl)) dX4_isRevision_8 ⟨Nat.le_of_ble_eq_true rfl, Nat.le_of_ble_eq_true rfl⟩) hG (fun r_1 S_2 H locs hp hG => ?_)
  obtain ⟨b1, rfl, hb1, rfl⟩ := hp
  have hG : mW X mo ad S s H locs := hG
  exact m_zret hx hb hr hlocks (by rcases hb1 with ⟨rfl, -⟩ | ⟨rfl, -⟩ <;> rfl) hG (⟨b1, rfl, by omega, rfl⟩) ⟨Nat.le_of_ble_eq_true rfl, Nat.le_of_ble_eq_true rfl⟩ dX4_isRevision_11

set_option maxHeartbeats 4000000 in
theorem metX4_isRemark {l : Launch} {X : gX} {mo : Nat} {ad : Nat → Nat} {S : mS} {r : Int} (hr0 : -2147483648 ≤ r ∧ r < 2147483648) (hS : 0 ≤ S.1 5 ∧ S.1 5 ≤ 16) : Met l yX4_isRemark (ws_ yX4_isRemark cX4_isRemark 2 (some FieldType.boolean)) ({ frames := 1, cells := 0, slots := 0, locals := 22 }) (mP X mo ad S [.ref mo, .int (zI r)]) (mQi X mo ad (fun u T => ∃ b : Int, u = zI b ∧ ((b = 1 ∧ (0 ≤ r ∧ r < S.1 5)) ∨ (b = 0 ∧ (r < 0 ∨ S.1 5 ≤ r))) ∧ S = T)) 0 0 (mA mo ad) := by
  refine Met.m (by decide) (Nat.le_of_ble_eq_true rfl) ?_
  intro p e s m below meth c ls hx hb hr hts hown hlocks hml hG hl
  have hl : lv_has ls 2 [(0, .ref mo), (1, .int (zI r))] := hl
  refine lv_iload_n hx hb dX4_isRemark_0 rfl (lv_at hl 1 rfl) ?_
  refine lv_iconst (v := zI 0) hx hb dX4_isRemark_1 (by decide +kernel) ?_
  refine lv_aload_n hx hb dX4_isRemark_2 rfl (lv_at hl 0 rfl) ?_
  refine m_get 5 (by decide) (v := .int (zI (S.1 5))) rfl hx hb hts hown hG (hts _ q3301) dX4_isRemark_3 ?_
  refine lv_iconst (v := zI 1) hx hb dX4_isRemark_6 (by decide +kernel) ?_
  refine g_isub hx hb dX4_isRemark_7 ?_
  refine m_ci (va_runS (As := [.int (zI r), .int (zI 0), .int (zI (S.1 5 - 1))]) (rest := []) ⟨hx, hb, hml, hown, hts⟩ (metX4_within (by omega)) (va_cwS 3 hts (lw_S q3424 q3425 q102 q3426) rfl rfl rfl (by decide +kernel) ⟨Nat.le_of_ble_eq_true rfl, Nat.le_of_ble_eq_true rfl⟩) (m_preS hG) rfl rfl hl.1 rfl (lv_room (Nat.le_of_ble_eq_true rfl)) dX4_isRemark_8 ⟨Nat.le_of_ble_eq_true rfl, Nat.le_of_ble_eq_true rfl⟩) hG (fun r_1 S_2 H locs hp hG => ?_)
  obtain ⟨b1, rfl, hb1, rfl⟩ := hp
  have hG : mW X mo ad S s H locs := hG
  exact m_zret hx hb hr hlocks (by rcases hb1 with ⟨rfl, -⟩ | ⟨rfl, -⟩ <;> rfl) hG (⟨b1, rfl, by omega, rfl⟩) ⟨Nat.le_of_ble_eq_true rfl, Nat.le_of_ble_eq_true rfl⟩ dX4_isRemark_11

set_option maxHeartbeats 4000000 in
theorem metX4_isLine {l : Launch} {X : gX} {mo : Nat} {ad : Nat → Nat} {S : mS} {r : Nat} {i : Int} (hr0 : -2147483648 ≤ i ∧ i < 2147483648) (hS : r < 17 ∧ 0 ≤ S.2.1 2 r ∧ S.2.1 2 r ≤ 24) : Met l yX4_isLine (ws_ yX4_isLine cX4_isLine 3 (some FieldType.boolean)) ({ frames := 1, cells := 0, slots := 0, locals := 22 }) (mP X mo ad S [.ref mo, .int (zI (r : Int)), .int (zI i)]) (mQi X mo ad (fun u T => ∃ b : Int, u = zI b ∧ ((b = 1 ∧ (0 ≤ i ∧ i < S.2.1 2 r)) ∨ (b = 0 ∧ (i < 0 ∨ S.2.1 2 r ≤ i))) ∧ S = T)) 0 0 (mA mo ad) := by
  refine Met.m (by decide) (Nat.le_of_ble_eq_true rfl) ?_
  intro p e s m below meth c ls hx hb hr hts hown hlocks hml hG hl
  have hl : lv_has ls 3 [(0, .ref mo), (1, .int (zI (r : Int))), (2, .int (zI i))] := hl
  refine lv_iload_n hx hb dX4_isLine_0 rfl (lv_at hl 2 rfl) ?_
  refine lv_iconst (v := zI 0) hx hb dX4_isLine_1 (by decide +kernel) ?_
  refine lv_aload_n hx hb dX4_isLine_2 rfl (lv_at hl 0 rfl) ?_
  refine m_get 2 (by decide) (v := .ref (ad 2)) rfl hx hb hts hown hG (hts _ q3298) dX4_isLine_3 ?_
  refine lv_iload_n hx hb dX4_isLine_6 rfl (lv_at hl 1 rfl) ?_
  refine m_iald 2 rfl rfl (by decide) r (v := S.2.1 2 r) ⟨by omega, by show _ < 17; omega⟩ rfl hx hb hG dX4_isLine_7 ?_
  refine lv_iconst (v := zI 1) hx hb dX4_isLine_8 (by decide +kernel) ?_
  refine g_isub hx hb dX4_isLine_9 ?_
  refine m_ci (va_runS (As := [.int (zI i), .int (zI 0), .int (zI (S.2.1 2 r - 1))]) (rest := []) ⟨hx, hb, hml, hown, hts⟩ (metX4_within (by omega)) (va_cwS 3 hts (lw_S q3424 q3425 q102 q3426) rfl rfl rfl (by decide +kernel) ⟨Nat.le_of_ble_eq_true rfl, Nat.le_of_ble_eq_true rfl⟩) (m_preS hG) rfl rfl hl.1 rfl (lv_room (Nat.le_of_ble_eq_true rfl)) dX4_isLine_10 ⟨Nat.le_of_ble_eq_true rfl, Nat.le_of_ble_eq_true rfl⟩) hG (fun r_1 S_2 H locs hp hG => ?_)
  obtain ⟨b1, rfl, hb1, rfl⟩ := hp
  have hG : mW X mo ad S s H locs := hG
  exact m_zret hx hb hr hlocks (by rcases hb1 with ⟨rfl, -⟩ | ⟨rfl, -⟩ <;> rfl) hG (⟨b1, rfl, by omega, rfl⟩) ⟨Nat.le_of_ble_eq_true rfl, Nat.le_of_ble_eq_true rfl⟩ dX4_isLine_13

set_option maxHeartbeats 4000000 in
theorem metX4_isRow {l : Launch} {X : gX} {mo : Nat} {ad : Nat → Nat} {S : mS} {k : Nat} (hS : k < 8 ∧ -2147483648 ≤ S.2.1 9 k ∧ S.2.1 9 k < 2147483648) : Met l yX4_isRow (ws_ yX4_isRow cX4_isRow 2 (some FieldType.boolean)) ({ frames := 0, cells := 0, slots := 0, locals := 0 }) (mP X mo ad S [.ref mo, .int (zI (k : Int))]) (mQi X mo ad (fun u T => ∃ b : Int, u = zI b ∧ ((b = 1 ∧ (100 ≤ S.2.1 9 k)) ∨ (b = 0 ∧ (S.2.1 9 k < 100))) ∧ S = T)) 0 0 (mA mo ad) := by
  refine Met.m (by decide) (Nat.le_of_ble_eq_true rfl) ?_
  intro p e s m below meth c ls hx hb hr hts hown hlocks hml hG hl
  have hl : lv_has ls 2 [(0, .ref mo), (1, .int (zI (k : Int)))] := hl
  refine g_join (σ := Int) 16 (fun b => (b = 1 ∧ (100 ≤ S.2.1 9 k)) ∨ (b = 0 ∧ (S.2.1 9 k < 100))) (fun b => [.int (zI b)]) (fun b hJ => ?_) (fun K => ?_)
  · exact m_zret hx hb hr hlocks (by rcases hJ with ⟨rfl, -⟩ | ⟨rfl, -⟩ <;> rfl) hG (⟨b, rfl, hJ, rfl⟩) ⟨Nat.le_of_ble_eq_true rfl, Nat.le_of_ble_eq_true rfl⟩ dX4_isRow_16
  · refine lv_aload_n hx hb dX4_isRow_0 rfl (lv_at hl 0 rfl) ?_
    refine m_get 9 (by decide) (v := .ref (ad 9)) rfl hx hb hts hown hG (hts _ q3305) dX4_isRow_1 ?_
    refine lv_iload_n hx hb dX4_isRow_4 rfl (lv_at hl 1 rfl) ?_
    refine m_iald 9 rfl rfl (by decide) k (v := S.2.1 9 k) ⟨by omega, by show _ < 8; omega⟩ rfl hx hb hG dX4_isRow_5 ?_
    refine lv_bipush (v := zI 100) hx hb dX4_isRow_6 (by decide +kernel) ?_
    refine g_clt (tgt := 15) hx hb dX4_isRow_8 (by decide) (by omega) (fun h1 => ?_) (fun h1 => ?_)
    · refine lv_iconst (v := zI 0) hx hb dX4_isRow_15 (by decide +kernel) ?_
      exact K 0 (Or.inr ⟨rfl, by omega⟩)
    · refine lv_iconst (v := zI 1) hx hb dX4_isRow_11 (by decide +kernel) ?_
      refine lv_goto (tgt := 16) hx hb dX4_isRow_12 (by decide) ?_
      exact K 1 (Or.inl ⟨rfl, by omega⟩)

set_option maxHeartbeats 4000000 in
theorem metX4_of {l : Launch} {X : gX} {mo : Nat} {ad : Nat → Nat} {S : mS} {c0 : Int} (a : Nat) {m0 : Nat} (hS : c0 = a ∧ 16 * a + m0 < 112) : Met l yX4_of (ws_ yX4_of cX4_of 3 (some FieldType.int)) ({ frames := 0, cells := 0, slots := 0, locals := 0 }) (mP X mo ad S [.ref mo, .int (zI c0), .int (zI (m0 : Int))]) (mQi X mo ad (fun u T => u = zI (S.2.1 6 (16 * a + m0)) ∧ S = T)) 0 0 (mA mo ad) := by
  refine Met.m (by decide) (Nat.le_of_ble_eq_true rfl) ?_
  intro p e s m below meth c ls hx hb hr hts hown hlocks hml hG hl
  have hl : lv_has ls 3 [(0, .ref mo), (1, .int (zI c0)), (2, .int (zI (m0 : Int)))] := hl
  refine lv_aload_n hx hb dX4_of_0 rfl (lv_at hl 0 rfl) ?_
  refine m_get 6 (by decide) (v := .ref (ad 6)) rfl hx hb hts hown hG (hts _ q3302) dX4_of_1 ?_
  refine lv_bipush (v := zI 16) hx hb dX4_of_4 (by decide +kernel) ?_
  refine lv_iload_n hx hb dX4_of_6 rfl (lv_at hl 1 rfl) ?_
  refine g_imul hx hb dX4_of_7 ?_
  refine lv_iload_n hx hb dX4_of_8 rfl (lv_at hl 2 rfl) ?_
  refine g_iadd hx hb dX4_of_9 ?_
  refine m_iald 6 rfl rfl (by decide) (16 * a + m0) (v := S.2.1 6 (16 * a + m0)) ⟨by omega, by show _ < 112; omega⟩ rfl hx hb hG dX4_of_10 ?_
  exact m_iret hx hb hr hlocks hG (⟨rfl, rfl⟩) ⟨Nat.le_of_ble_eq_true rfl, Nat.le_of_ble_eq_true rfl⟩ dX4_of_11

