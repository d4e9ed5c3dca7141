set_option maxRecDepth 100000
theorem lnN_dig : ∀ (t : Ln) (k : Nat), (∀ x ∈ t, x ≤ 122) → lnN t / 256 ^ k % 256 = t.getD k 0 := by
  intro t
  induction t with
  | nil => intro k _; show 0 / 256 ^ k % 256 = 0; rw [Nat.zero_div]
  | cons x t ih =>
    intro k h
    have hx := h x List.mem_cons_self
    cases k with
    | zero => show (x + 256 * lnN t) / 1 % 256 = x; omega
    | succ k =>
      have := ih k (fun y hy => h y (List.mem_cons_of_mem _ hy))
      rw [show (x :: t).getD (k + 1) 0 = t.getD k 0 from rfl, ← this, Nat.pow_succ, Nat.mul_comm (256 ^ k) 256, ← Nat.div_div_eq_div_mul]
      congr 2
      show (x + 256 * lnN t) / 256 = _
      omega
theorem zL_bv (n : Nat) (h : n < 9223372036854775808) : (zL (n : Int)).toBitVec.toNat = n := by
  have h1 : (zL (n : Int)).toInt = n := zL_toInt ⟨by omega, by omega⟩
  have h2 : (zL (n : Int)).toInt = (zL (n : Int)).toBitVec.toInt := rfl
  have h3 := (zL (n : Int)).toBitVec.isLt
  rw [h2, BitVec.toInt_eq_toNat_cond] at h1
  by_cases hc : 2 * (zL (n : Int)).toBitVec.toNat < 2 ^ 64
  · rw [if_pos hc] at h1; omega
  · rw [if_neg hc] at h1; omega
theorem zL_low (z : Int) : (zL z).toInt32 = zI z := Int64.toInt32_ofInt
theorem zL_ofN {x : Int64} {n : Nat} (h : x.toBitVec.toNat = n) (hn : n < 9223372036854775808) : x = zL (n : Int) := by
  apply Int64.toBitVec_inj.mp
  apply BitVec.eq_of_toNat_eq
  rw [h, zL_bv n hn]
theorem zL_and (n : Nat) (h : n < 9223372036854775808) : zL (n : Int) &&& 255 = zL ((n % 256 : Nat) : Int) := by
  refine zL_ofN ?_ (by omega)
  rw [Int64.toBitVec_and, BitVec.toNat_and, zL_bv n h, show (255 : Int64).toBitVec.toNat = 2 ^ 8 - 1 from by decide, Nat.and_two_pow_sub_one_eq_mod]
theorem lnZ_dig {t : Ln} (h : lnOK t) {k : Nat} (hk : k < 8) : (((lnZ t).toUInt64 >>> ((zI (8 * (k : Int))).toInt64.toUInt64 &&& Int64.toUInt64 63)).toInt64 &&& 255).toInt32 = zI ((t.getD k 0 : Nat) : Int) := by
  have hR := lnN_lt t (fun x hx => (h.2 x hx).2) 8 h.1
  have h0 : (lnZ t).toInt = (lnN t : Nat) := zL_toInt ⟨by omega, by omega⟩
  have e : ((lnZ t).toUInt64 >>> ((zI (8 * (k : Int))).toInt64.toUInt64 &&& Int64.toUInt64 63)).toInt64 = zL ((lnN t / 256 ^ k : Nat) : Int) := by
    rw [zL_of ((lnZ t).toUInt64 >>> ((zI (8 * (k : Int))).toInt64.toUInt64 &&& Int64.toUInt64 63)).toInt64]
    congr 1
    have hs : (256 : Nat) ^ k = 2 ^ (8 * k) := by rw [Nat.pow_mul]
    rw [Jvm.Kit.i64_lushr (k := 8 * k) (Jvm.Kit.i64_nonneg.mpr (by rw [h0]; omega)) (by rcases (show k = 0 ∨ k = 1 ∨ k = 2 ∨ k = 3 ∨ k = 4 ∨ k = 5 ∨ k = 6 ∨ k = 7 by omega) with rfl | rfl | rfl | rfl | rfl | rfl | rfl | rfl <;> decide +kernel) (by omega), h0, hs]
    rw [Int.natCast_ediv, Int.natCast_pow]; rfl
  have hle : lnN t / 256 ^ k ≤ lnN t := Nat.div_le_self _ _
  rw [e, zL_and _ (by omega), zL_low, lnN_dig t k (fun x hx => (h.2 x hx).2)]
def opLetter (a : aS) (x i k : Int) : Int × aS := if ¬ (0 ≤ x ∧ x < wN (aWd a)) then aNoR a 1 else if ¬ ((0 ≤ i ∧ i < aLn a x) ∧ 0 ≤ k ∧ k ≤ 8) then aNoR a 5 else (((((wTx (aWd a) x.toNat).getD i.toNat []).getD k.toNat 0 : Nat) : Int), a)
/-- a row's element as an int -/
def rwI (f : Nat → Int64) (k : Nat) : Int := (f k).toInt32.toInt
theorem rwI_z (f : Nat → Int64) (k : Nat) : (f k).toInt32 = zI (rwI f k) := zI_of _
theorem rwI_R (f : Nat → Int64) (k : Nat) : -2147483648 ≤ rwI f k ∧ rwI f k < 2147483648 := zI_rng _
def jdP (w : aW) (f : Nat → Int64) (m t n : Nat) (k : Nat) : Bool := decide (rwI f k ≠ pOf (wkF w m t n k))
def opJudge (a : aS) (v x y : Int) : Int × aS := if ¬ ((0 ≤ v ∧ v ≤ 7) ∧ (0 ≤ x ∧ x < wM (aWd a)) ∧ 0 ≤ y ∧ y < wN (aWd a)) then aNoT a 1 else match aSv a v.toNat with
  | none => aNoT a 3
  | some (.inl _) => aNoT a 2
  | some (.inr (_, nv, f)) => match beh (wFo (aWd a)) y.toNat (rOn (wRk (aWd a) x.toNat)) with
    | none => aNoT a 6
    | some n => if nv ≤ n then aNoT a 5 else (oI (fsB (jdP (aWd a) f x.toNat y.toNat n) (n + 1) 0), a)
theorem fsB_to {p : Nat → Bool} {n : Nat} : ∀ k j, (∀ i, i < k → p (j + i) = false) → fsB p (k + n) j = fsB p n (j + k) := by
  intro k
  induction k with
  | zero => intro j _; rw [Nat.zero_add, Nat.add_zero]
  | succ k ih =>
    intro j h
    rw [show k + 1 + n = (k + n) + 1 by omega, fsB, if_neg (by have := h 0 (by omega); rw [Nat.add_zero] at this; rw [this]; exact nofun), ih (j + 1) (fun i hi => by have := h (i + 1) (by omega); rwa [show j + (i + 1) = j + 1 + i by omega] at this), show j + 1 + k = j + (k + 1) by omega]
theorem fsB_hit {p : Nat → Bool} {k n : Nat} (h : ∀ i, i < k → p i = false) (hk : p k = true) (hn : k < n) : fsB p n 0 = some k := by
  obtain ⟨q, rfl⟩ : ∃ q, n = k + (q + 1) := ⟨n - k - 1, by omega⟩
  rw [fsB_to k 0 (fun i hi => by rw [Nat.zero_add]; exact h i hi), Nat.zero_add, fsB, if_pos hk]
theorem fsB_miss {p : Nat → Bool} {n : Nat} (h : ∀ i, i < n → p i = false) : fsB p n 0 = none := by
  have := fsB_to (p := p) (n := 0) n 0 (fun i hi => by rw [Nat.zero_add]; exact h i hi)
  rw [Nat.add_zero] at this; rw [this]; rfl
theorem mWk.pR {S : mS} {w : aW} {k : Wk} (h : mWk S w k) : -1 ≤ pOf k ∧ pOf k < 24 := by
  unfold pOf
  by_cases h3 : kHow k = 3
  · rw [if_pos h3]; omega
  · rw [if_neg h3]; have := h.2.1 h3; omega
set_option maxHeartbeats 4000000 in
theorem metX4_letter {l : Launch} {X : gX} {mo : Nat} {ad : Nat → Nat} {S : mS} {a : aS} (hX : mX S a) (hA : aOK a) {x i k : Int} (hr0 : -2147483648 ≤ x ∧ x < 2147483648 ∧ -2147483648 ≤ i ∧ i < 2147483648 ∧ -2147483648 ≤ k ∧ k < 2147483648) : Met l yX4_letter (ws_ yX4_letter cX4_letter 4 (some FieldType.int)) ({ frames := 2, cells := 0, slots := 0, locals := 44 }) (mP X mo ad S [.ref mo, .int (zI x), .int (zI i), .int (zI k)]) (mQi X mo ad (fun u T => u = zI (opLetter a x i k).1 ∧ mX T (opLetter a x i k).2)) 0 0 (mA mo ad) := by
  refine Met.m (by decide) (Nat.le_of_ble_eq_true rfl) ?_
  intro p e s m below meth c ls hx hb hr hts hown hlocks hml hG hl
  have hl : lv_has ls 4 [(0, .ref mo), (1, .int (zI x)), (2, .int (zI i)), (3, .int (zI k))] := hl
  have hNN := hA.w.n
  have hMM := hA.w.m
  refine lv_aload_n hx hb dX4_letter_0 rfl (lv_at hl 0 rfl) ?_
  refine lv_iload_n hx hb dX4_letter_1 rfl (lv_at hl 1 rfl) ?_
  have hq1 := hX.o.n
  have hQ1 := hA.w.n
  refine m_ci (va_runV (As := [.int (zI x)]) (rest := []) ⟨hx, hb, hml, hown, hts⟩ (metX4_isRevision (by omega) (by omega)) (cwV 1 hts (lw_V q3481 q3483 qs48 q102 q3484) rfl rfl rfl (by decide +kernel) ⟨Nat.le_of_ble_eq_true rfl, Nat.le_of_ble_eq_true rfl⟩) (m_preV hG) rfl rfl hl.1 rfl (lv_room (Nat.le_of_ble_eq_true rfl)) dX4_letter_2 ⟨Nat.le_of_ble_eq_true rfl, Nat.le_of_ble_eq_true rfl⟩) hG (fun r_1 S_2 H locs hp hG => ?_)
  obtain ⟨b1, rfl, hb1, rfl⟩ := hp
  have hG : mW X mo ad S s H locs := hG
  refine g_ne (tgt := 14) hx hb dX4_letter_5 (by decide) (by omega) (fun h2 => ?_) (fun h2 => ?_)
  · obtain ⟨x1, rfl⟩ : ∃ n9 : Nat, x = n9 := ⟨x.toNat, by omega⟩
    refine lv_aload_n hx hb dX4_letter_14 rfl (lv_at hl 0 rfl) ?_
    refine lv_iload_n hx hb dX4_letter_15 rfl (lv_at hl 1 rfl) ?_
    refine lv_iload_n hx hb dX4_letter_16 rfl (lv_at hl 2 rfl) ?_
    have hq3 := hX.o.len (r := x1) (by omega)
    have hQ3 := (hA.w.tx (r := x1) (by omega)).1
    refine m_ci (va_runV (As := [.int (zI (x1 : Int)), .int (zI i)]) (rest := []) ⟨hx, hb, hml, hown, hts⟩ (metX4_isLine (r := x1) (by omega) ⟨by omega, by omega, by omega⟩) (cwV 2 hts (lw_V q3534 q3536 qs58 q102 q3537) rfl rfl rfl (by decide +kernel) ⟨Nat.le_of_ble_eq_true rfl, Nat.le_of_ble_eq_true rfl⟩) (m_preV hG) rfl rfl hl.1 rfl (lv_room (Nat.le_of_ble_eq_true rfl)) dX4_letter_17 ⟨Nat.le_of_ble_eq_true rfl, Nat.le_of_ble_eq_true rfl⟩) hG (fun r_3 S_4 H locs hp hG => ?_)
    obtain ⟨b3, rfl, hb3, rfl⟩ := hp
    have hG : mW X mo ad S s H locs := hG
    rw [hq3] at hb3
    refine g_eq (tgt := 33) hx hb dX4_letter_20 (by decide) (by omega) (fun h4 => ?_) (fun h4 => ?_)
    · refine lv_aload_n hx hb dX4_letter_33 rfl (lv_at hl 0 rfl) ?_
      refine lv_bipush (v := zI (-5)) hx hb dX4_letter_34 (by decide +kernel) ?_
      refine g_topz (y := -((5 : Nat) : Int)) (by decide) ?_
      refine m_ci (va_runV (As := [.int (zI (-((5 : Nat) : Int)))]) (rest := []) ⟨hx, hb, hml, hown, hts⟩ (metX4_no 5 (by decide)) (cwV 1 hts (lw_V q3427 q3429 qs43 q102 q3430) rfl rfl rfl (by decide +kernel) ⟨Nat.le_of_ble_eq_true rfl, Nat.le_of_ble_eq_true rfl⟩) (m_preV hG) rfl rfl hl.1 rfl (lv_room (Nat.le_of_ble_eq_true rfl)) dX4_letter_36 ⟨Nat.le_of_ble_eq_true rfl, Nat.le_of_ble_eq_true rfl⟩) hG (fun r_5 S_6 H locs hp hG => ?_)
      obtain ⟨rfl, rfl⟩ := hp
      have hG : mW X mo ad (mNo S 5) s H locs := hG
      exact m_iret hx hb hr hlocks hG (by first | (exfalso; omega) | exact (hX.noR 5 (by unfold opLetter; (repeat (first | rw [if_pos (by omega)] | rw [if_neg (by omega)])); all_goals (try (unfold aLn; simp only [Int.toNat_natCast])); all_goals ((repeat (first | rw [if_pos (by omega)] | rw [if_neg (by omega)])) <;> rfl)))) ⟨Nat.le_of_ble_eq_true rfl, Nat.le_of_ble_eq_true rfl⟩ dX4_letter_39
    · refine lv_iload_n hx hb dX4_letter_23 rfl (lv_at hl 3 rfl) ?_
      refine lv_iconst (v := zI 0) hx hb dX4_letter_24 (by decide +kernel) ?_
      refine lv_bipush (v := zI 8) hx hb dX4_letter_25 (by decide +kernel) ?_
      refine m_ci (va_runS (As := [.int (zI k), .int (zI 0), .int (zI 8)]) (rest := []) ⟨hx, hb, hml, hown, hts⟩ (metX4_within (by omega)) (va_cwS 3 hts (lw_S q3424 q3425 q102 q3426) rfl rfl rfl (by decide +kernel) ⟨Nat.le_of_ble_eq_true rfl, Nat.le_of_ble_eq_true rfl⟩) (m_preS hG) rfl rfl hl.1 rfl (lv_room (Nat.le_of_ble_eq_true rfl)) dX4_letter_27 ⟨Nat.le_of_ble_eq_true rfl, Nat.le_of_ble_eq_true rfl⟩) hG (fun r_7 S_8 H locs hp hG => ?_)
      obtain ⟨bw5, rfl, hbw5, rfl⟩ := hp
      have hG : mW X mo ad S s H locs := hG
      refine g_ne (tgt := 40) hx hb dX4_letter_30 (by decide) (by omega) (fun h6 => ?_) (fun h6 => ?_)
      · obtain ⟨i1, rfl⟩ : ∃ n9 : Nat, i = n9 := ⟨i.toNat, by omega⟩
        obtain ⟨k1, rfl⟩ : ∃ n9 : Nat, k = n9 := ⟨k.toNat, by omega⟩
        refine lv_iload_n hx hb dX4_letter_40 rfl (lv_at hl 3 rfl) ?_
        refine lv_bipush (v := zI 8) hx hb dX4_letter_41 (by decide +kernel) ?_
        refine g_cne (tgt := 50) hx hb dX4_letter_43 (by decide) (by omega) (fun h7 => ?_) (fun h7 => ?_)
        · refine lv_aload_n hx hb dX4_letter_50 rfl (lv_at hl 0 rfl) ?_
          refine m_get 3 (by decide) (v := .ref (ad 3)) rfl hx hb hts hown hG (hts _ q3299) dX4_letter_51 ?_
          refine lv_bipush (v := zI 24) hx hb dX4_letter_54 (by decide +kernel) ?_
          refine lv_iload_n hx hb dX4_letter_56 rfl (lv_at hl 1 rfl) ?_
          refine g_imul hx hb dX4_letter_57 ?_
          refine lv_iload_n hx hb dX4_letter_58 rfl (lv_at hl 2 rfl) ?_
          refine g_iadd hx hb dX4_letter_59 ?_
          refine m_lald 3 rfl rfl (24 * x1 + i1) (v := (lnZ ((wTx (aWd a) x1).getD i1 []))) ⟨by omega, by show _ < 408; omega⟩ (hX.o.ln (by omega) (by omega)) hx hb hG dX4_letter_60 ?_
          refine lv_bipush (v := zI 8) hx hb dX4_letter_61 (by decide +kernel) ?_
          refine lv_iload_n hx hb dX4_letter_63 rfl (lv_at hl 3 rfl) ?_
          refine g_imul hx hb dX4_letter_64 ?_
          refine lv_lushr (v := ((lnZ ((wTx (aWd a) x1).getD i1 [])).toUInt64 >>> ((zI (8 * (k1 : Int))).toInt64.toUInt64 &&& Int64.toUInt64 63)).toInt64) hx hb dX4_letter_65 rfl ?_
          refine lv_ldc2 (v := 255) hx hb hown (hts _ q3538) dX4_letter_66 ?_
          refine lv_land hx hb dX4_letter_69 ?_
          refine lv_l2i (v := ((((lnZ ((wTx (aWd a) x1).getD i1 [])).toUInt64 >>> ((zI (8 * (k1 : Int))).toInt64.toUInt64 &&& Int64.toUInt64 63)).toInt64) &&& (255 : Int64)).toInt32) hx hb dX4_letter_70 rfl ?_
          refine lv_topx (zI ((((wTx (aWd a) x1).getD i1 []).getD k1 0 : Nat) : Int)) (lnZ_dig (hA.w.ln (by omega) (by omega)) (by omega)) ?_
          exact m_iret hx hb hr hlocks hG (by first | (exfalso; omega) | exact (mX.cast (by unfold opLetter; rw [if_neg (by omega), if_neg (by unfold aLn; simp only [Int.toNat_natCast]; omega)]; simp only [Int.toNat_natCast]) hX)) ⟨Nat.le_of_ble_eq_true rfl, Nat.le_of_ble_eq_true rfl⟩ dX4_letter_71
        · refine lv_iconst (v := zI 0) hx hb dX4_letter_46 (by decide +kernel) ?_
          refine lv_goto (tgt := 71) hx hb dX4_letter_47 (by decide) ?_
          exact m_iret hx hb hr hlocks hG (by first | (exfalso; omega) | exact (mX.cast (by unfold opLetter; rw [if_neg (by omega), if_neg (by unfold aLn; simp only [Int.toNat_natCast]; omega)]; simp only [Int.toNat_natCast]; rw [show ((wTx (aWd a) x1).getD i1 []).getD k1 0 = 0 from by have q := hA.w.ln (r := x1) (i := i1) (by omega) (by omega); rw [List.getD_eq_getElem?_getD, List.getElem?_eq_none (by have := q.1; omega)]; rfl]; rfl) hX)) ⟨Nat.le_of_ble_eq_true rfl, Nat.le_of_ble_eq_true rfl⟩ dX4_letter_71
      · refine lv_aload_n hx hb dX4_letter_33 rfl (lv_at hl 0 rfl) ?_
        refine lv_bipush (v := zI (-5)) hx hb dX4_letter_34 (by decide +kernel) ?_
        refine g_topz (y := -((5 : Nat) : Int)) (by decide) ?_
        refine m_ci (va_runV (As := [.int (zI (-((5 : Nat) : Int)))]) (rest := []) ⟨hx, hb, hml, hown, hts⟩ (metX4_no 5 (by decide)) (cwV 1 hts (lw_V q3427 q3429 qs43 q102 q3430) rfl rfl rfl (by decide +kernel) ⟨Nat.le_of_ble_eq_true rfl, Nat.le_of_ble_eq_true rfl⟩) (m_preV hG) rfl rfl hl.1 rfl (lv_room (Nat.le_of_ble_eq_true rfl)) dX4_letter_36 ⟨Nat.le_of_ble_eq_true rfl, Nat.le_of_ble_eq_true rfl⟩) hG (fun r_9 S_10 H locs hp hG => ?_)
        obtain ⟨rfl, rfl⟩ := hp
        have hG : mW X mo ad (mNo S 5) s H locs := hG
        exact m_iret hx hb hr hlocks hG (by first | (exfalso; omega) | exact (hX.noR 5 (by unfold opLetter; (repeat (first | rw [if_pos (by omega)] | rw [if_neg (by omega)])); all_goals (try (unfold aLn; simp only [Int.toNat_natCast])); all_goals ((repeat (first | rw [if_pos (by omega)] | rw [if_neg (by omega)])) <;> rfl)))) ⟨Nat.le_of_ble_eq_true rfl, Nat.le_of_ble_eq_true rfl⟩ dX4_letter_39
  · refine lv_aload_n hx hb dX4_letter_8 rfl (lv_at hl 0 rfl) ?_
    refine lv_iconst (v := zI (-1)) hx hb dX4_letter_9 (by decide +kernel) ?_
    refine g_topz (y := -((1 : Nat) : Int)) (by decide) ?_
    refine m_ci (va_runV (As := [.int (zI (-((1 : Nat) : Int)))]) (rest := []) ⟨hx, hb, hml, hown, hts⟩ (metX4_no 1 (by decide)) (cwV 1 hts (lw_V q3427 q3429 qs43 q102 q3430) rfl rfl rfl (by decide +kernel) ⟨Nat.le_of_ble_eq_true rfl, Nat.le_of_ble_eq_true rfl⟩) (m_preV hG) rfl rfl hl.1 rfl (lv_room (Nat.le_of_ble_eq_true rfl)) dX4_letter_10 ⟨Nat.le_of_ble_eq_true rfl, Nat.le_of_ble_eq_true rfl⟩) hG (fun r_11 S_12 H locs hp hG => ?_)
    obtain ⟨rfl, rfl⟩ := hp
    have hG : mW X mo ad (mNo S 1) s H locs := hG
    exact m_iret hx hb hr hlocks hG (by first | (exfalso; omega) | exact (hX.noR 1 (by unfold opLetter; (repeat (first | rw [if_pos (by omega)] | rw [if_neg (by omega)])); all_goals (try (unfold aLn; simp only [Int.toNat_natCast])); all_goals ((repeat (first | rw [if_pos (by omega)] | rw [if_neg (by omega)])) <;> rfl)))) ⟨Nat.le_of_ble_eq_true rfl, Nat.le_of_ble_eq_true rfl⟩ dX4_letter_13

set_option maxHeartbeats 4000000 in
theorem metX4_judge {l : Launch} {X : gX} {mo : Nat} {ad : Nat → Nat} {S : mS} {a : aS} (hX : mX S a) (hA : aOK a) {v x y : Int} (hr0 : -2147483648 ≤ v ∧ v < 2147483648 ∧ -2147483648 ≤ x ∧ x < 2147483648 ∧ -2147483648 ≤ y ∧ y < 2147483648) : Met l yX4_judge (ws_ yX4_judge cX4_judge 7 (some FieldType.int)) ({ frames := 5, cells := 0, slots := 0, locals := 122 }) (mP X mo ad S [.ref mo, .int (zI v), .int (zI x), .int (zI y)]) (mQi X mo ad (fun u T => u = zI (opJudge a v x y).1 ∧ mX T (opJudge a v x y).2)) 0 0 (mA mo ad) := by
  refine Met.m (by decide) (Nat.le_of_ble_eq_true rfl) ?_
  intro p e s m below meth c ls hx hb hr hts hown hlocks hml hG hl
  have hl : lv_has ls 7 [(0, .ref mo), (1, .int (zI v)), (2, .int (zI x)), (3, .int (zI y))] := hl
  have hNN := hA.w.n
  have hMM := hA.w.m
  by_cases hinv : 0 ≤ v ∧ v ≤ 7
  · obtain ⟨v1, rfl⟩ : ∃ n9 : Nat, v = n9 := ⟨v.toNat, by omega⟩
    have hshv := hX.2.2.1 v1 (by omega)
    have hokv := hA.2.1 v1
    rcases hsvv : aSv a v1 with _ | mv | ⟨sov, nv, fv⟩
    · rw [hsvv] at hshv
      have hshv : S.2.1 9 v1 = -1 := hshv
      refine lv_aload_n hx hb dX4_judge_0 rfl (lv_at hl 0 rfl) ?_
      refine lv_iload_n hx hb dX4_judge_1 rfl (lv_at hl 1 rfl) ?_
      refine m_ci (va_runV (As := [.int (zI (v1 : Int))]) (rest := []) ⟨hx, hb, hml, hown, hts⟩ (metX4_noRow hX hA (by omega) 3 (by unfold aBar; rw [if_neg (by omega)]; simp only [Int.toNat_natCast, hsvv])) (cwV 1 hts (lw_V q3435 q3437 qs44 q102 q3438) rfl rfl rfl (by decide +kernel) ⟨Nat.le_of_ble_eq_true rfl, Nat.le_of_ble_eq_true rfl⟩) (m_preV hG) rfl rfl hl.1 rfl (lv_room (Nat.le_of_ble_eq_true rfl)) dX4_judge_2 ⟨Nat.le_of_ble_eq_true rfl, Nat.le_of_ble_eq_true rfl⟩) hG (fun r_1 S_2 H locs hp hG => ?_)
      obtain ⟨rfl, rfl⟩ := hp
      have hG : mW X mo ad S s H locs := hG
      refine g_topz (y := -3) (by decide) ?_
      refine lv_istore (lv' := [(4, .int (zI (-3))), (0, .ref mo), (1, .int (zI (v1 : Int))), (2, .int (zI x)), (3, .int (zI y))]) hx hb dX4_judge_5 hl (by decide) rfl (fun ls hl => ?_)
      refine lv_iload hx hb dX4_judge_7 (lv_at hl 0 rfl) ?_
      refine lv_iconst (v := zI (-1)) hx hb dX4_judge_9 (by decide +kernel) ?_
      refine g_ceq (tgt := 29) hx hb dX4_judge_10 (by decide) (by omega) (fun h1 => ?_) (fun h1 => ?_)
      · exfalso; omega
      · refine lv_aload_n hx hb dX4_judge_13 rfl (lv_at hl 1 rfl) ?_
        refine lv_iload_n hx hb dX4_judge_14 rfl (lv_at hl 3 rfl) ?_
        have hq2 := hX.o.m
        have hQ2 := hA.w.m
        refine m_ci (va_runV (As := [.int (zI x)]) (rest := []) ⟨hx, hb, hml, hown, hts⟩ (metX4_isRemark (by omega) (by omega)) (cwV 1 hts (lw_V q3455 q3457 qs46 q102 q3458) rfl rfl rfl (by decide +kernel) ⟨Nat.le_of_ble_eq_true rfl, Nat.le_of_ble_eq_true rfl⟩) (m_preV hG) rfl rfl hl.1 rfl (lv_room (Nat.le_of_ble_eq_true rfl)) dX4_judge_15 ⟨Nat.le_of_ble_eq_true rfl, Nat.le_of_ble_eq_true rfl⟩) hG (fun r_3 S_4 H locs hp hG => ?_)
        obtain ⟨b2, rfl, hb2, rfl⟩ := hp
        have hG : mW X mo ad S s H locs := hG
        refine g_eq (tgt := 29) hx hb dX4_judge_18 (by decide) (by omega) (fun h3 => ?_) (fun h3 => ?_)
        · refine lv_aload_n hx hb dX4_judge_29 rfl (lv_at hl 1 rfl) ?_
          refine lv_iconst (v := zI (-1)) hx hb dX4_judge_30 (by decide +kernel) ?_
          refine g_topz (y := -((1 : Nat) : Int)) (by decide) ?_
          refine m_ci (va_runV (As := [.int (zI (-((1 : Nat) : Int)))]) (rest := []) ⟨hx, hb, hml, hown, hts⟩ (metX4_no10 1 (by decide)) (cwV 1 hts (lw_V q3543 q3545 qs59 q102 q3546) rfl rfl rfl (by decide +kernel) ⟨Nat.le_of_ble_eq_true rfl, Nat.le_of_ble_eq_true rfl⟩) (m_preV hG) rfl rfl hl.1 rfl (lv_room (Nat.le_of_ble_eq_true rfl)) dX4_judge_31 ⟨Nat.le_of_ble_eq_true rfl, Nat.le_of_ble_eq_true rfl⟩) hG (fun r_5 S_6 H locs hp hG => ?_)
          obtain ⟨rfl, rfl⟩ := hp
          have hG : mW X mo ad (mNo S 1) s H locs := hG
          exact m_iret hx hb hr hlocks hG (by first | (exfalso; omega) | exact (hX.noT 1 (by unfold opJudge; (repeat (first | rw [if_pos (by omega)] | rw [if_neg (by omega)])); all_goals (try (simp only [Int.toNat_natCast, hsvv])); all_goals ((repeat (first | rw [if_pos (by omega)] | rw [if_neg (by omega)])) <;> rfl)))) ⟨Nat.le_of_ble_eq_true rfl, Nat.le_of_ble_eq_true rfl⟩ dX4_judge_34
        · refine lv_aload_n hx hb dX4_judge_21 rfl (lv_at hl 1 rfl) ?_
          refine lv_iload_n hx hb dX4_judge_22 rfl (lv_at hl 4 rfl) ?_
          have hq4 := hX.o.n
          have hQ4 := hA.w.n
          refine m_ci (va_runV (As := [.int (zI y)]) (rest := []) ⟨hx, hb, hml, hown, hts⟩ (metX4_isRevision (by omega) (by omega)) (cwV 1 hts (lw_V q3481 q3483 qs48 q102 q3484) rfl rfl rfl (by decide +kernel) ⟨Nat.le_of_ble_eq_true rfl, Nat.le_of_ble_eq_true rfl⟩) (m_preV hG) rfl rfl hl.1 rfl (lv_room (Nat.le_of_ble_eq_true rfl)) dX4_judge_23 ⟨Nat.le_of_ble_eq_true rfl, Nat.le_of_ble_eq_true rfl⟩) hG (fun r_7 S_8 H locs hp hG => ?_)
          obtain ⟨b4, rfl, hb4, rfl⟩ := hp
          have hG : mW X mo ad S s H locs := hG
          refine g_ne (tgt := 35) hx hb dX4_judge_26 (by decide) (by omega) (fun h5 => ?_) (fun h5 => ?_)
          · refine lv_iload hx hb dX4_judge_35 (lv_at hl 0 rfl) ?_
            refine g_ge (tgt := 47) hx hb dX4_judge_37 (by decide) (by decide) (fun h6 => ?_) (fun h6 => ?_)
            · exfalso; omega
            · refine lv_aload_n hx hb dX4_judge_40 rfl (lv_at hl 1 rfl) ?_
              refine lv_iload hx hb dX4_judge_41 (lv_at hl 0 rfl) ?_
              refine g_topz (y := -((3 : Nat) : Int)) (by decide) ?_
              refine m_ci (va_runV (As := [.int (zI (-((3 : Nat) : Int)))]) (rest := []) ⟨hx, hb, hml, hown, hts⟩ (metX4_no10 3 (by decide)) (cwV 1 hts (lw_V q3543 q3545 qs59 q102 q3546) rfl rfl rfl (by decide +kernel) ⟨Nat.le_of_ble_eq_true rfl, Nat.le_of_ble_eq_true rfl⟩) (m_preV hG) rfl rfl hl.1 rfl (lv_room (Nat.le_of_ble_eq_true rfl)) dX4_judge_43 ⟨Nat.le_of_ble_eq_true rfl, Nat.le_of_ble_eq_true rfl⟩) hG (fun r_9 S_10 H locs hp hG => ?_)
              obtain ⟨rfl, rfl⟩ := hp
              have hG : mW X mo ad (mNo S 3) s H locs := hG
              exact m_iret hx hb hr hlocks hG (by first | (exfalso; omega) | exact (hX.noT 3 (by unfold opJudge; (repeat (first | rw [if_pos (by omega)] | rw [if_neg (by omega)])); all_goals (try (simp only [Int.toNat_natCast, hsvv])); all_goals ((repeat (first | rw [if_pos (by omega)] | rw [if_neg (by omega)])) <;> rfl)))) ⟨Nat.le_of_ble_eq_true rfl, Nat.le_of_ble_eq_true rfl⟩ dX4_judge_46
          · refine lv_aload_n hx hb dX4_judge_29 rfl (lv_at hl 1 rfl) ?_
            refine lv_iconst (v := zI (-1)) hx hb dX4_judge_30 (by decide +kernel) ?_
            refine g_topz (y := -((1 : Nat) : Int)) (by decide) ?_
            refine m_ci (va_runV (As := [.int (zI (-((1 : Nat) : Int)))]) (rest := []) ⟨hx, hb, hml, hown, hts⟩ (metX4_no10 1 (by decide)) (cwV 1 hts (lw_V q3543 q3545 qs59 q102 q3546) rfl rfl rfl (by decide +kernel) ⟨Nat.le_of_ble_eq_true rfl, Nat.le_of_ble_eq_true rfl⟩) (m_preV hG) rfl rfl hl.1 rfl (lv_room (Nat.le_of_ble_eq_true rfl)) dX4_judge_31 ⟨Nat.le_of_ble_eq_true rfl, Nat.le_of_ble_eq_true rfl⟩) hG (fun r_11 S_12 H locs hp hG => ?_)
            obtain ⟨rfl, rfl⟩ := hp
            have hG : mW X mo ad (mNo S 1) s H locs := hG
            exact m_iret hx hb hr hlocks hG (by first | (exfalso; omega) | exact (hX.noT 1 (by unfold opJudge; (repeat (first | rw [if_pos (by omega)] | rw [if_neg (by omega)])); all_goals (try (simp only [Int.toNat_natCast, hsvv])); all_goals ((repeat (first | rw [if_pos (by omega)] | rw [if_neg (by omega)])) <;> rfl)))) ⟨Nat.le_of_ble_eq_true rfl, Nat.le_of_ble_eq_true rfl⟩ dX4_judge_34
    · rw [hsvv] at hshv hokv
      have hshv : S.2.1 9 v1 = (mv : Nat) := hshv
      have hokv : mv < wM (aWd a) := hokv
      have hMv := hA.w.m
      refine lv_aload_n hx hb dX4_judge_0 rfl (lv_at hl 0 rfl) ?_
      refine lv_iload_n hx hb dX4_judge_1 rfl (lv_at hl 1 rfl) ?_
      refine m_ci (va_runV (As := [.int (zI (v1 : Int))]) (rest := []) ⟨hx, hb, hml, hown, hts⟩ (metX4_noRow hX hA (by omega) 2 (by unfold aBar; rw [if_neg (by omega)]; simp only [Int.toNat_natCast, hsvv])) (cwV 1 hts (lw_V q3435 q3437 qs44 q102 q3438) rfl rfl rfl (by decide +kernel) ⟨Nat.le_of_ble_eq_true rfl, Nat.le_of_ble_eq_true rfl⟩) (m_preV hG) rfl rfl hl.1 rfl (lv_room (Nat.le_of_ble_eq_true rfl)) dX4_judge_2 ⟨Nat.le_of_ble_eq_true rfl, Nat.le_of_ble_eq_true rfl⟩) hG (fun r_13 S_14 H locs hp hG => ?_)
      obtain ⟨rfl, rfl⟩ := hp
      have hG : mW X mo ad S s H locs := hG
      refine g_topz (y := -2) (by decide) ?_
      refine lv_istore (lv' := [(4, .int (zI (-2))), (0, .ref mo), (1, .int (zI (v1 : Int))), (2, .int (zI x)), (3, .int (zI y))]) hx hb dX4_judge_5 hl (by decide) rfl (fun ls hl => ?_)
      refine lv_iload hx hb dX4_judge_7 (lv_at hl 0 rfl) ?_
      refine lv_iconst (v := zI (-1)) hx hb dX4_judge_9 (by decide +kernel) ?_
      refine g_ceq (tgt := 29) hx hb dX4_judge_10 (by decide) (by omega) (fun h7 => ?_) (fun h7 => ?_)
      · exfalso; omega
      · refine lv_aload_n hx hb dX4_judge_13 rfl (lv_at hl 1 rfl) ?_
        refine lv_iload_n hx hb dX4_judge_14 rfl (lv_at hl 3 rfl) ?_
        have hq8 := hX.o.m
        have hQ8 := hA.w.m
        refine m_ci (va_runV (As := [.int (zI x)]) (rest := []) ⟨hx, hb, hml, hown, hts⟩ (metX4_isRemark (by omega) (by omega)) (cwV 1 hts (lw_V q3455 q3457 qs46 q102 q3458) rfl rfl rfl (by decide +kernel) ⟨Nat.le_of_ble_eq_true rfl, Nat.le_of_ble_eq_true rfl⟩) (m_preV hG) rfl rfl hl.1 rfl (lv_room (Nat.le_of_ble_eq_true rfl)) dX4_judge_15 ⟨Nat.le_of_ble_eq_true rfl, Nat.le_of_ble_eq_true rfl⟩) hG (fun r_15 S_16 H locs hp hG => ?_)
        obtain ⟨b8, rfl, hb8, rfl⟩ := hp
        have hG : mW X mo ad S s H locs := hG
        refine g_eq (tgt := 29) hx hb dX4_judge_18 (by decide) (by omega) (fun h9 => ?_) (fun h9 => ?_)
        · refine lv_aload_n hx hb dX4_judge_29 rfl (lv_at hl 1 rfl) ?_
          refine lv_iconst (v := zI (-1)) hx hb dX4_judge_30 (by decide +kernel) ?_
          refine g_topz (y := -((1 : Nat) : Int)) (by decide) ?_
          refine m_ci (va_runV (As := [.int (zI (-((1 : Nat) : Int)))]) (rest := []) ⟨hx, hb, hml, hown, hts⟩ (metX4_no10 1 (by decide)) (cwV 1 hts (lw_V q3543 q3545 qs59 q102 q3546) rfl rfl rfl (by decide +kernel) ⟨Nat.le_of_ble_eq_true rfl, Nat.le_of_ble_eq_true rfl⟩) (m_preV hG) rfl rfl hl.1 rfl (lv_room (Nat.le_of_ble_eq_true rfl)) dX4_judge_31 ⟨Nat.le_of_ble_eq_true rfl, Nat.le_of_ble_eq_true rfl⟩) hG (fun r_17 S_18 H locs hp hG => ?_)
          obtain ⟨rfl, rfl⟩ := hp
          have hG : mW X mo ad (mNo S 1) s H locs := hG
          exact m_iret hx hb hr hlocks hG (by first | (exfalso; omega) | exact (hX.noT 1 (by unfold opJudge; (repeat (first | rw [if_pos (by omega)] | rw [if_neg (by omega)])); all_goals (try (simp only [Int.toNat_natCast, hsvv])); all_goals ((repeat (first | rw [if_pos (by omega)] | rw [if_neg (by omega)])) <;> rfl)))) ⟨Nat.le_of_ble_eq_true rfl, Nat.le_of_ble_eq_true rfl⟩ dX4_judge_34
        · refine lv_aload_n hx hb dX4_judge_21 rfl (lv_at hl 1 rfl) ?_
          refine lv_iload_n hx hb dX4_judge_22 rfl (lv_at hl 4 rfl) ?_
          have hq10 := hX.o.n
          have hQ10 := hA.w.n
          refine m_ci (va_runV (As := [.int (zI y)]) (rest := []) ⟨hx, hb, hml, hown, hts⟩ (metX4_isRevision (by omega) (by omega)) (cwV 1 hts (lw_V q3481 q3483 qs48 q102 q3484) rfl rfl rfl (by decide +kernel) ⟨Nat.le_of_ble_eq_true rfl, Nat.le_of_ble_eq_true rfl⟩) (m_preV hG) rfl rfl hl.1 rfl (lv_room (Nat.le_of_ble_eq_true rfl)) dX4_judge_23 ⟨Nat.le_of_ble_eq_true rfl, Nat.le_of_ble_eq_true rfl⟩) hG (fun r_19 S_20 H locs hp hG => ?_)
          obtain ⟨b10, rfl, hb10, rfl⟩ := hp
          have hG : mW X mo ad S s H locs := hG
          refine g_ne (tgt := 35) hx hb dX4_judge_26 (by decide) (by omega) (fun h11 => ?_) (fun h11 => ?_)
          · refine lv_iload hx hb dX4_judge_35 (lv_at hl 0 rfl) ?_
            refine g_ge (tgt := 47) hx hb dX4_judge_37 (by decide) (by decide) (fun h12 => ?_) (fun h12 => ?_)
            · exfalso; omega
            · refine lv_aload_n hx hb dX4_judge_40 rfl (lv_at hl 1 rfl) ?_
              refine lv_iload hx hb dX4_judge_41 (lv_at hl 0 rfl) ?_
              refine g_topz (y := -((2 : Nat) : Int)) (by decide) ?_
              refine m_ci (va_runV (As := [.int (zI (-((2 : Nat) : Int)))]) (rest := []) ⟨hx, hb, hml, hown, hts⟩ (metX4_no10 2 (by decide)) (cwV 1 hts (lw_V q3543 q3545 qs59 q102 q3546) rfl rfl rfl (by decide +kernel) ⟨Nat.le_of_ble_eq_true rfl, Nat.le_of_ble_eq_true rfl⟩) (m_preV hG) rfl rfl hl.1 rfl (lv_room (Nat.le_of_ble_eq_true rfl)) dX4_judge_43 ⟨Nat.le_of_ble_eq_true rfl, Nat.le_of_ble_eq_true rfl⟩) hG (fun r_21 S_22 H locs hp hG => ?_)
              obtain ⟨rfl, rfl⟩ := hp
              have hG : mW X mo ad (mNo S 2) s H locs := hG
              exact m_iret hx hb hr hlocks hG (by first | (exfalso; omega) | exact (hX.noT 2 (by unfold opJudge; (repeat (first | rw [if_pos (by omega)] | rw [if_neg (by omega)])); all_goals (try (simp only [Int.toNat_natCast, hsvv])); all_goals ((repeat (first | rw [if_pos (by omega)] | rw [if_neg (by omega)])) <;> rfl)))) ⟨Nat.le_of_ble_eq_true rfl, Nat.le_of_ble_eq_true rfl⟩ dX4_judge_46
          · refine lv_aload_n hx hb dX4_judge_29 rfl (lv_at hl 1 rfl) ?_
            refine lv_iconst (v := zI (-1)) hx hb dX4_judge_30 (by decide +kernel) ?_
            refine g_topz (y := -((1 : Nat) : Int)) (by decide) ?_
            refine m_ci (va_runV (As := [.int (zI (-((1 : Nat) : Int)))]) (rest := []) ⟨hx, hb, hml, hown, hts⟩ (metX4_no10 1 (by decide)) (cwV 1 hts (lw_V q3543 q3545 qs59 q102 q3546) rfl rfl rfl (by decide +kernel) ⟨Nat.le_of_ble_eq_true rfl, Nat.le_of_ble_eq_true rfl⟩) (m_preV hG) rfl rfl hl.1 rfl (lv_room (Nat.le_of_ble_eq_true rfl)) dX4_judge_31 ⟨Nat.le_of_ble_eq_true rfl, Nat.le_of_ble_eq_true rfl⟩) hG (fun r_23 S_24 H locs hp hG => ?_)
            obtain ⟨rfl, rfl⟩ := hp
            have hG : mW X mo ad (mNo S 1) s H locs := hG
            exact m_iret hx hb hr hlocks hG (by first | (exfalso; omega) | exact (hX.noT 1 (by unfold opJudge; (repeat (first | rw [if_pos (by omega)] | rw [if_neg (by omega)])); all_goals (try (simp only [Int.toNat_natCast, hsvv])); all_goals ((repeat (first | rw [if_pos (by omega)] | rw [if_neg (by omega)])) <;> rfl)))) ⟨Nat.le_of_ble_eq_true rfl, Nat.le_of_ble_eq_true rfl⟩ dX4_judge_34
    · rw [hsvv] at hshv hokv
      obtain ⟨hshv, hlnv, helv⟩ := hshv
      have hokv : sov ≤ 3 ∧ nv ≤ 160 := hokv
      refine lv_aload_n hx hb dX4_judge_0 rfl (lv_at hl 0 rfl) ?_
      refine lv_iload_n hx hb dX4_judge_1 rfl (lv_at hl 1 rfl) ?_
      refine m_ci (va_runV (As := [.int (zI (v1 : Int))]) (rest := []) ⟨hx, hb, hml, hown, hts⟩ (metX4_noRow hX hA (by omega) 0 (by unfold aBar; rw [if_neg (by omega)]; simp only [Int.toNat_natCast, hsvv])) (cwV 1 hts (lw_V q3435 q3437 qs44 q102 q3438) rfl rfl rfl (by decide +kernel) ⟨Nat.le_of_ble_eq_true rfl, Nat.le_of_ble_eq_true rfl⟩) (m_preV hG) rfl rfl hl.1 rfl (lv_room (Nat.le_of_ble_eq_true rfl)) dX4_judge_2 ⟨Nat.le_of_ble_eq_true rfl, Nat.le_of_ble_eq_true rfl⟩) hG (fun r_25 S_26 H locs hp hG => ?_)
      obtain ⟨rfl, rfl⟩ := hp
      have hG : mW X mo ad S s H locs := hG
      refine g_topz (y := 0) (by decide) ?_
      refine lv_istore (lv' := [(4, .int (zI 0)), (0, .ref mo), (1, .int (zI (v1 : Int))), (2, .int (zI x)), (3, .int (zI y))]) hx hb dX4_judge_5 hl (by decide) rfl (fun ls hl => ?_)
      refine lv_iload hx hb dX4_judge_7 (lv_at hl 0 rfl) ?_
      refine lv_iconst (v := zI (-1)) hx hb dX4_judge_9 (by decide +kernel) ?_
      refine g_ceq (tgt := 29) hx hb dX4_judge_10 (by decide) (by omega) (fun h13 => ?_) (fun h13 => ?_)
      · exfalso; omega
      · refine lv_aload_n hx hb dX4_judge_13 rfl (lv_at hl 1 rfl) ?_
        refine lv_iload_n hx hb dX4_judge_14 rfl (lv_at hl 3 rfl) ?_
        have hq14 := hX.o.m
        have hQ14 := hA.w.m
        refine m_ci (va_runV (As := [.int (zI x)]) (rest := []) ⟨hx, hb, hml, hown, hts⟩ (metX4_isRemark (by omega) (by omega)) (cwV 1 hts (lw_V q3455 q3457 qs46 q102 q3458) rfl rfl rfl (by decide +kernel) ⟨Nat.le_of_ble_eq_true rfl, Nat.le_of_ble_eq_true rfl⟩) (m_preV hG) rfl rfl hl.1 rfl (lv_room (Nat.le_of_ble_eq_true rfl)) dX4_judge_15 ⟨Nat.le_of_ble_eq_true rfl, Nat.le_of_ble_eq_true rfl⟩) hG (fun r_27 S_28 H locs hp hG => ?_)
        obtain ⟨b14, rfl, hb14, rfl⟩ := hp
        have hG : mW X mo ad S s H locs := hG
        refine g_eq (tgt := 29) hx hb dX4_judge_18 (by decide) (by omega) (fun h15 => ?_) (fun h15 => ?_)
        · refine lv_aload_n hx hb dX4_judge_29 rfl (lv_at hl 1 rfl) ?_
          refine lv_iconst (v := zI (-1)) hx hb dX4_judge_30 (by decide +kernel) ?_
          refine g_topz (y := -((1 : Nat) : Int)) (by decide) ?_
          refine m_ci (va_runV (As := [.int (zI (-((1 : Nat) : Int)))]) (rest := []) ⟨hx, hb, hml, hown, hts⟩ (metX4_no10 1 (by decide)) (cwV 1 hts (lw_V q3543 q3545 qs59 q102 q3546) rfl rfl rfl (by decide +kernel) ⟨Nat.le_of_ble_eq_true rfl, Nat.le_of_ble_eq_true rfl⟩) (m_preV hG) rfl rfl hl.1 rfl (lv_room (Nat.le_of_ble_eq_true rfl)) dX4_judge_31 ⟨Nat.le_of_ble_eq_true rfl, Nat.le_of_ble_eq_true rfl⟩) hG (fun r_29 S_30 H locs hp hG => ?_)
          obtain ⟨rfl, rfl⟩ := hp
          have hG : mW X mo ad (mNo S 1) s H locs := hG
          exact m_iret hx hb hr hlocks hG (by first | (exfalso; omega) | exact (hX.noT 1 (by unfold opJudge; (repeat (first | rw [if_pos (by omega)] | rw [if_neg (by omega)])); all_goals (try (simp only [Int.toNat_natCast, hsvv])); all_goals ((repeat (first | rw [if_pos (by omega)] | rw [if_neg (by omega)])) <;> rfl)))) ⟨Nat.le_of_ble_eq_true rfl, Nat.le_of_ble_eq_true rfl⟩ dX4_judge_34
        · refine lv_aload_n hx hb dX4_judge_21 rfl (lv_at hl 1 rfl) ?_
          refine lv_iload_n hx hb dX4_judge_22 rfl (lv_at hl 4 rfl) ?_
          have hq16 := hX.o.n
          have hQ16 := hA.w.n
          refine m_ci (va_runV (As := [.int (zI y)]) (rest := []) ⟨hx, hb, hml, hown, hts⟩ (metX4_isRevision (by omega) (by omega)) (cwV 1 hts (lw_V q3481 q3483 qs48 q102 q3484) rfl rfl rfl (by decide +kernel) ⟨Nat.le_of_ble_eq_true rfl, Nat.le_of_ble_eq_true rfl⟩) (m_preV hG) rfl rfl hl.1 rfl (lv_room (Nat.le_of_ble_eq_true rfl)) dX4_judge_23 ⟨Nat.le_of_ble_eq_true rfl, Nat.le_of_ble_eq_true rfl⟩) hG (fun r_31 S_32 H locs hp hG => ?_)
          obtain ⟨b16, rfl, hb16, rfl⟩ := hp
          have hG : mW X mo ad S s H locs := hG
          refine g_ne (tgt := 35) hx hb dX4_judge_26 (by decide) (by omega) (fun h17 => ?_) (fun h17 => ?_)
          · refine lv_iload hx hb dX4_judge_35 (lv_at hl 0 rfl) ?_
            refine g_ge (tgt := 47) hx hb dX4_judge_37 (by decide) (by decide) (fun h18 => ?_) (fun h18 => ?_)
            · obtain ⟨x1, rfl⟩ : ∃ n9 : Nat, x = n9 := ⟨x.toNat, by omega⟩
              obtain ⟨y1, rfl⟩ : ∃ n9 : Nat, y = n9 := ⟨y.toNat, by omega⟩
              refine lv_aload_n hx hb dX4_judge_47 rfl (lv_at hl 1 rfl) ?_
              refine lv_iload_n hx hb dX4_judge_48 rfl (lv_at hl 4 rfl) ?_
              refine lv_aload_n hx hb dX4_judge_49 rfl (lv_at hl 1 rfl) ?_
              refine lv_iconst (v := zI 2) hx hb dX4_judge_50 (by decide +kernel) ?_
              refine lv_iload_n hx hb dX4_judge_51 rfl (lv_at hl 3 rfl) ?_
              refine m_ci (va_runV (As := [.int (zI 2), .int (zI (x1 : Int))]) (rest := [.int (zI (y1 : Int)), .ref mo]) ⟨hx, hb, hml, hown, hts⟩ (metX4_of 2 (m0 := x1) (by omega)) (cwV 2 hts (lw_V q3467 q3469 qs47 q102 q3470) rfl rfl rfl (by decide +kernel) ⟨Nat.le_of_ble_eq_true rfl, Nat.le_of_ble_eq_true rfl⟩) (m_preV hG) rfl rfl hl.1 rfl (lv_room (Nat.le_of_ble_eq_true rfl)) dX4_judge_52 ⟨Nat.le_of_ble_eq_true rfl, Nat.le_of_ble_eq_true rfl⟩) hG (fun r_33 S_34 H locs hp hG => ?_)
              obtain ⟨rfl, rfl⟩ := hp
              have hG : mW X mo ad S s H locs := hG
              refine g_topz (y := (rOn (wRk (aWd a) x1) : Int)) (hX.o.on (m := x1) (by omega)) ?_
              have hv19 := hA.w.rk (m := x1) (by omega)
              refine m_ci (va_runV (As := [.int (zI (y1 : Int)), .int (zI (rOn (wRk (aWd a) x1) : Int))]) (rest := []) ⟨hx, hb, hml, hown, hts⟩ (metX4_behind (t := y1) (r := rOn (wRk (aWd a) x1)) hX.o hA.w (by omega) (by omega)) (cwV 2 hts (lw_V q3563 q3565 qs60 q102 q3566) rfl rfl rfl (by decide +kernel) ⟨Nat.le_of_ble_eq_true rfl, Nat.le_of_ble_eq_true rfl⟩) (m_preV hG) rfl rfl hl.1 rfl (lv_room (Nat.le_of_ble_eq_true rfl)) dX4_judge_55 ⟨Nat.le_of_ble_eq_true rfl, Nat.le_of_ble_eq_true rfl⟩) hG (fun r_35 S_36 H locs hp hG => ?_)
              obtain ⟨rfl, har, hch⟩ := hp
              have hG : mW X mo ad S_36 s H locs := hG
              have hre := har.real (by decide)
              rcases hbh : beh (wFo (aWd a)) y1 (rOn (wRk (aWd a) x1)) with _ | n
              · refine g_topz (x := oI none) (y := -1) rfl ?_
                refine lv_istore (lv' := [(5, .int (zI (-1))), (4, .int (zI 0)), (0, .ref mo), (1, .int (zI (v1 : Int))), (2, .int (zI (x1 : Int))), (3, .int (zI (y1 : Int)))]) hx hb dX4_judge_58 hl (by decide) rfl (fun ls hl => ?_)
                refine lv_iload hx hb dX4_judge_60 (lv_at hl 0 rfl) ?_
                refine lv_iconst (v := zI (-1)) hx hb dX4_judge_62 (by decide +kernel) ?_
                refine g_cne (tgt := 73) hx hb dX4_judge_63 (by decide) (by omega) (fun h6 => ?_) (fun h6 => ?_)
                · exfalso; omega
                · refine lv_aload_n hx hb dX4_judge_66 rfl (lv_at hl 2 rfl) ?_
                  refine lv_bipush (v := zI (-6)) hx hb dX4_judge_67 (by decide +kernel) ?_
                  refine g_topz (y := -((6 : Nat) : Int)) (by decide) ?_
                  refine m_ci (va_runV (As := [.int (zI (-((6 : Nat) : Int)))]) (rest := []) ⟨hx, hb, hml, hown, hts⟩ (metX4_no10 6 (by decide)) (cwV 1 hts (lw_V q3543 q3545 qs59 q102 q3546) rfl rfl rfl (by decide +kernel) ⟨Nat.le_of_ble_eq_true rfl, Nat.le_of_ble_eq_true rfl⟩) (m_preV hG) rfl rfl hl.1 rfl (lv_room (Nat.le_of_ble_eq_true rfl)) dX4_judge_69 ⟨Nat.le_of_ble_eq_true rfl, Nat.le_of_ble_eq_true rfl⟩) hG (fun r_37 S_38 H locs hp hG => ?_)
                  obtain ⟨rfl, rfl⟩ := hp
                  have hG : mW X mo ad (mNo S_36 6) s H locs := hG
                  exact m_iret hx hb hr hlocks hG ((hX.real hre).noT 6 (by unfold opJudge; rw [if_neg (by omega)]; simp only [Int.toNat_natCast, hsvv, hbh])) ⟨Nat.le_of_ble_eq_true rfl, Nat.le_of_ble_eq_true rfl⟩ dX4_judge_72
              · have hln := (beh_anc hA.w.fo n y1 _ hbh).1 n (Nat.le_refl n)
                refine g_topz (x := oI (some n)) (y := (n : Int)) rfl ?_
                refine lv_istore (lv' := [(5, .int (zI (n : Int))), (4, .int (zI 0)), (0, .ref mo), (1, .int (zI (v1 : Int))), (2, .int (zI (x1 : Int))), (3, .int (zI (y1 : Int)))]) hx hb dX4_judge_58 hl (by decide) rfl (fun ls hl => ?_)
                refine lv_iload hx hb dX4_judge_60 (lv_at hl 0 rfl) ?_
                refine lv_iconst (v := zI (-1)) hx hb dX4_judge_62 (by decide +kernel) ?_
                refine g_cne (tgt := 73) hx hb dX4_judge_63 (by decide) (by omega) (fun h6 => ?_) (fun h6 => ?_)
                · refine lv_aload_n hx hb dX4_judge_73 rfl (lv_at hl 2 rfl) ?_
                  refine m_get 10 (by decide) (v := .ref (ad 10)) rfl hx hb hts hown hG (hts _ q3306) dX4_judge_74 ?_
                  refine lv_iload_n hx hb dX4_judge_77 rfl (lv_at hl 3 rfl) ?_
                  refine m_iald 10 rfl rfl (by decide) v1 (v := (nv : Int)) ⟨by omega, by show _ < 8; omega⟩ (show S_36.2.1 10 v1 = (nv : Int) from ((congrFun (hre 10 (by decide)).2.1 _).trans hlnv)) hx hb hG dX4_judge_78 ?_
                  refine lv_iload hx hb dX4_judge_79 (lv_at hl 0 rfl) ?_
                  refine g_cgt (tgt := 91) hx hb dX4_judge_81 (by decide) (by omega) (fun h7 => ?_) (fun h7 => ?_)
                  · refine lv_iconst (v := zI 0) hx hb dX4_judge_91 (by decide +kernel) ?_
                    refine lv_istore (lv' := [(6, .int (zI 0)), (5, .int (zI (n : Int))), (4, .int (zI 0)), (0, .ref mo), (1, .int (zI (v1 : Int))), (2, .int (zI (x1 : Int))), (3, .int (zI (y1 : Int)))]) hx hb dX4_judge_92 hl (by decide) rfl (fun ls hl => ?_)
                    have hl : lv_has ls 7 [(6, .int (zI ((0 : Nat) : Int))), (5, .int (zI (n : Int))), (4, .int (zI 0)), (0, .ref mo), (1, .int (zI (v1 : Int))), (2, .int (zI (x1 : Int))), (3, .int (zI (y1 : Int)))] := by exact hl
                    refine g_loop (fun mz H locs ls => ∃ (k : Nat) (T : mS), (k ≤ n + 1 ∧ mz = n + 1 - k ∧ mReal S T ∧ (∀ j, j < k → rwI fv j = pOf (wkF (aWd a) x1 y1 n j))) ∧ mW X mo ad T s H locs ∧ lv_has ls 7 [(0, .ref mo), (1, .int (zI (v1 : Int))), (2, .int (zI (x1 : Int))), (3, .int (zI (y1 : Int))), (4, .int (zI 0)), (5, .int (zI (n : Int))), (6, .int (zI (k : Int)))]) (n + 1 - 0) ⟨0, S_36, ⟨Nat.zero_le _, rfl, hre, fun j hj => by omega⟩, hG, (lv_sub hl [3, 4, 5, 6, 2, 1, 0] rfl)⟩ (fun mz ihJ H locs ls hI => ?_)
                    obtain ⟨k, T, ⟨hk, hmz, hre, hj⟩, hG, hl⟩ := hI
                    refine lv_iload hx hb dX4_judge_94 (lv_at hl 6 rfl) ?_
                    refine lv_iload hx hb dX4_judge_96 (lv_at hl 5 rfl) ?_
                    refine g_cgt (tgt := 142) hx hb dX4_judge_98 (by decide) (by omega) (fun h2 => ?_) (fun h2 => ?_)
                    · refine lv_iconst (v := zI (-1)) hx hb dX4_judge_142 (by decide +kernel) ?_
                      exact m_iret hx hb hr hlocks hG (mX.cast (by unfold opJudge; rw [if_neg (by omega)]; simp only [Int.toNat_natCast, hsvv, hbh]; rw [if_neg (by omega), fsB_miss (p := jdP (aWd a) fv x1 y1 n) (fun i hi => decide_eq_false (fun q => q (hj i (by omega))))]; rfl) (hX.real hre)) ⟨Nat.le_of_ble_eq_true rfl, Nat.le_of_ble_eq_true rfl⟩ dX4_judge_143
                    · have hXt := hX.real hre
                      refine lv_aload_n hx hb dX4_judge_101 rfl (lv_at hl 0 rfl) ?_
                      refine lv_iload_n hx hb dX4_judge_102 rfl (lv_at hl 2 rfl) ?_
                      refine lv_aload_n hx hb dX4_judge_103 rfl (lv_at hl 0 rfl) ?_
                      refine lv_iconst (v := zI 0) hx hb dX4_judge_104 (by decide +kernel) ?_
                      refine lv_iload_n hx hb dX4_judge_105 rfl (lv_at hl 2 rfl) ?_
                      refine m_ci (va_runV (As := [.int (zI 0), .int (zI (x1 : Int))]) (rest := [.int (zI (x1 : Int)), .ref mo]) ⟨hx, hb, hml, hown, hts⟩ (metX4_of 0 (m0 := x1) (by omega)) (cwV 2 hts (lw_V q3467 q3469 qs47 q102 q3470) rfl rfl rfl (by decide +kernel) ⟨Nat.le_of_ble_eq_true rfl, Nat.le_of_ble_eq_true rfl⟩) (m_preV hG) rfl rfl hl.1 rfl (lv_room (Nat.le_of_ble_eq_true rfl)) dX4_judge_106 ⟨Nat.le_of_ble_eq_true rfl, Nat.le_of_ble_eq_true rfl⟩) hG (fun r_39 S_40 H locs hp hG => ?_)
                      obtain ⟨rfl, rfl⟩ := hp
                      have hG : mW X mo ad T s H locs := hG
                      refine g_topz (y := (rKind (wRk (aWd a) x1) : Int)) ((congrArg (T.2.1 6) (by omega : 16 * 0 + x1 = x1)).trans (hXt.o.kd (m := x1) (by omega))) ?_
                      have hv20 := hA.w.rk (m := x1) (by omega)
                      refine lv_iload_n hx hb dX4_judge_109 rfl (lv_at hl 3 rfl) ?_
                      refine lv_iload hx hb dX4_judge_110 (lv_at hl 5 rfl) ?_
                      refine lv_iload hx hb dX4_judge_112 (lv_at hl 6 rfl) ?_
                      refine g_isub hx hb dX4_judge_114 ?_
                      refine g_topz (y := ((n - k : Nat) : Int)) (by omega) ?_
                      refine m_ci (va_runV (As := [.int (zI (x1 : Int)), .int (zI (rKind (wRk (aWd a) x1) : Int)), .int (zI (y1 : Int)), .int (zI ((n - k : Nat) : Int))]) (rest := []) ⟨hx, hb, hml, hown, hts⟩ (metX4_puts (x := x1) (kd := (rKind (wRk (aWd a) x1))) (t := y1) (le := (n - k)) hXt.o hA.w (by omega) (by omega) (by omega) (fun n9 h9 => by rw [hbh] at h9; cases h9; omega)) (cwV 4 hts (lw_V q3611 q3613 qs67 q102 q3614) rfl rfl rfl (by decide +kernel) ⟨Nat.le_of_ble_eq_true rfl, Nat.le_of_ble_eq_true rfl⟩) (m_preV hG) rfl rfl hl.1 rfl (lv_room (Nat.le_of_ble_eq_true rfl)) dX4_judge_115 ⟨Nat.le_of_ble_eq_true rfl, Nat.le_of_ble_eq_true rfl⟩) hG (fun r_41 S_42 H locs hp hG => ?_)
                      obtain ⟨b1, rfl, hb1, hre1, hpl1⟩ := hp
                      have hG : mW X mo ad S_42 s H locs := hG
                      have hW : mWk S_42 (aWd a) (wkF (aWd a) x1 y1 n k) := by
                        rcases hb1 with ⟨h9, nn, hb9, hW9⟩ | ⟨h9, hb9⟩
                        · rw [hbh] at hb9; cases hb9; rw [show n - (n - k) = k by omega] at hW9; exact hW9
                        · rw [hbh] at hb9; cases hb9
                      have hre2 := hre.tr hre1
                      have hpR := hW.pR
                      have hrw := rwI_R fv k
                      refine lv_pop hx hb dX4_judge_118 rfl ?_
                      refine lv_aload_n hx hb dX4_judge_119 rfl (lv_at hl 0 rfl) ?_
                      refine lv_iload_n hx hb dX4_judge_120 rfl (lv_at hl 1 rfl) ?_
                      refine lv_iload hx hb dX4_judge_121 (lv_at hl 6 rfl) ?_
                      refine m_ci (va_runV (As := [.int (zI (v1 : Int)), .int (zI (k : Int))]) (rest := []) ⟨hx, hb, hml, hown, hts⟩ (metX4_read (v := v1) (i := k) ⟨by omega, by omega⟩) (cwV 2 hts (lw_V q3489 q3491 qs50 q102 q3492) rfl rfl rfl (by decide +kernel) ⟨Nat.le_of_ble_eq_true rfl, Nat.le_of_ble_eq_true rfl⟩) (m_preV hG) rfl rfl hl.1 rfl (lv_room (Nat.le_of_ble_eq_true rfl)) dX4_judge_123 ⟨Nat.le_of_ble_eq_true rfl, Nat.le_of_ble_eq_true rfl⟩) hG (fun r_43 S_44 H locs hp hG => ?_)
                      obtain ⟨rfl, rfl⟩ := hp
                      have hG : mW X mo ad S_42 s H locs := hG
                      refine lv_topx (zI (rwI fv k)) ((congrArg Int64.toInt32 ((congrFun (hre2 11 (by decide)).2.2 _).trans (helv k (by omega)))).trans (zI_of _)) ?_
                      refine lv_aload_n hx hb dX4_judge_126 rfl (lv_at hl 0 rfl) ?_
                      refine m_get 31 (by decide) (v := .int (zI (pOf (wkF (aWd a) x1 y1 n k)))) (congrArg (fun z => Value.int (zI z)) (show S_42.1 31 = (pOf (wkF (aWd a) x1 y1 n k)) from hW.p)) hx hb hts hown hG (hts _ q3327) dX4_judge_127 ?_
                      refine g_ceq (tgt := 136) hx hb dX4_judge_130 (by decide) (by omega) (fun h3 => ?_) (fun h3 => ?_)
                      · refine lv_iinc (v := zI ((k : Int) + 1 : Int)) (lv' := [(6, .int (zI ((k : Int) + 1 : Int))), (0, .ref mo), (1, .int (zI (v1 : Int))), (2, .int (zI (x1 : Int))), (3, .int (zI (y1 : Int))), (4, .int (zI 0)), (5, .int (zI (n : Int)))]) hx hb dX4_judge_136 hl (k := 6) rfl ((zI_add _ _).trans (congrArg zI (by omega))) (by decide) rfl (fun ls hl => ?_)
                        refine lv_goto (tgt := 94) hx hb dX4_judge_139 (by decide) ?_
                        have hl : lv_has ls 7 [(6, .int (zI ((k + 1 : Nat) : Int))), (0, .ref mo), (1, .int (zI (v1 : Int))), (2, .int (zI (x1 : Int))), (3, .int (zI (y1 : Int))), (4, .int (zI 0)), (5, .int (zI (n : Int)))] := by exact hl
                        exact ihJ (n + 1 - (k + 1)) (by omega) H locs ls ⟨(k + 1), S_42, ⟨by omega, rfl, hre2, fun j hj9 => by by_cases hjk : j = k; (subst hjk; exact h3); exact hj j (by omega)⟩, hG, (lv_sub hl [1, 2, 3, 4, 5, 6, 0] rfl)⟩
                      · refine lv_iload hx hb dX4_judge_133 (lv_at hl 6 rfl) ?_
                        exact m_iret hx hb hr hlocks hG (mX.cast (by unfold opJudge; rw [if_neg (by omega)]; simp only [Int.toNat_natCast, hsvv, hbh]; rw [if_neg (by omega), fsB_hit (p := jdP (aWd a) fv x1 y1 n) (k := k) (fun i hi => decide_eq_false (fun q => q (hj i (by omega)))) (decide_eq_true h3) (by omega)]; rfl) (hX.real hre2)) ⟨Nat.le_of_ble_eq_true rfl, Nat.le_of_ble_eq_true rfl⟩ dX4_judge_135
                  · refine lv_aload_n hx hb dX4_judge_84 rfl (lv_at hl 2 rfl) ?_
                    refine lv_bipush (v := zI (-5)) hx hb dX4_judge_85 (by decide +kernel) ?_
                    refine g_topz (y := -((5 : Nat) : Int)) (by decide) ?_
                    refine m_ci (va_runV (As := [.int (zI (-((5 : Nat) : Int)))]) (rest := []) ⟨hx, hb, hml, hown, hts⟩ (metX4_no10 5 (by decide)) (cwV 1 hts (lw_V q3543 q3545 qs59 q102 q3546) rfl rfl rfl (by decide +kernel) ⟨Nat.le_of_ble_eq_true rfl, Nat.le_of_ble_eq_true rfl⟩) (m_preV hG) rfl rfl hl.1 rfl (lv_room (Nat.le_of_ble_eq_true rfl)) dX4_judge_87 ⟨Nat.le_of_ble_eq_true rfl, Nat.le_of_ble_eq_true rfl⟩) hG (fun r_45 S_46 H locs hp hG => ?_)
                    obtain ⟨rfl, rfl⟩ := hp
                    have hG : mW X mo ad (mNo S_36 5) s H locs := hG
                    exact m_iret hx hb hr hlocks hG ((hX.real hre).noT 5 (by unfold opJudge; rw [if_neg (by omega)]; simp only [Int.toNat_natCast, hsvv, hbh]; rw [if_pos (by omega)])) ⟨Nat.le_of_ble_eq_true rfl, Nat.le_of_ble_eq_true rfl⟩ dX4_judge_90
                · exfalso; omega
            · exfalso; omega
          · refine lv_aload_n hx hb dX4_judge_29 rfl (lv_at hl 1 rfl) ?_
            refine lv_iconst (v := zI (-1)) hx hb dX4_judge_30 (by decide +kernel) ?_
            refine g_topz (y := -((1 : Nat) : Int)) (by decide) ?_
            refine m_ci (va_runV (As := [.int (zI (-((1 : Nat) : Int)))]) (rest := []) ⟨hx, hb, hml, hown, hts⟩ (metX4_no10 1 (by decide)) (cwV 1 hts (lw_V q3543 q3545 qs59 q102 q3546) rfl rfl rfl (by decide +kernel) ⟨Nat.le_of_ble_eq_true rfl, Nat.le_of_ble_eq_true rfl⟩) (m_preV hG) rfl rfl hl.1 rfl (lv_room (Nat.le_of_ble_eq_true rfl)) dX4_judge_31 ⟨Nat.le_of_ble_eq_true rfl, Nat.le_of_ble_eq_true rfl⟩) hG (fun r_47 S_48 H locs hp hG => ?_)
            obtain ⟨rfl, rfl⟩ := hp
            have hG : mW X mo ad (mNo S 1) s H locs := hG
            exact m_iret hx hb hr hlocks hG (by first | (exfalso; omega) | exact (hX.noT 1 (by unfold opJudge; (repeat (first | rw [if_pos (by omega)] | rw [if_neg (by omega)])); all_goals (try (simp only [Int.toNat_natCast, hsvv])); all_goals ((repeat (first | rw [if_pos (by omega)] | rw [if_neg (by omega)])) <;> rfl)))) ⟨Nat.le_of_ble_eq_true rfl, Nat.le_of_ble_eq_true rfl⟩ dX4_judge_34
  · refine lv_aload_n hx hb dX4_judge_0 rfl (lv_at hl 0 rfl) ?_
    refine lv_iload_n hx hb dX4_judge_1 rfl (lv_at hl 1 rfl) ?_
    refine m_ci (va_runV (As := [.int (zI v)]) (rest := []) ⟨hx, hb, hml, hown, hts⟩ (metX4_noRow hX hA (by omega) 1 (by unfold aBar; rw [if_pos (by omega)])) (cwV 1 hts (lw_V q3435 q3437 qs44 q102 q3438) rfl rfl rfl (by decide +kernel) ⟨Nat.le_of_ble_eq_true rfl, Nat.le_of_ble_eq_true rfl⟩) (m_preV hG) rfl rfl hl.1 rfl (lv_room (Nat.le_of_ble_eq_true rfl)) dX4_judge_2 ⟨Nat.le_of_ble_eq_true rfl, Nat.le_of_ble_eq_true rfl⟩) hG (fun r_49 S_50 H locs hp hG => ?_)
    obtain ⟨rfl, rfl⟩ := hp
    have hG : mW X mo ad S s H locs := hG
    refine g_topz (y := -1) (by decide) ?_
    refine lv_istore (lv' := [(4, .int (zI (-1))), (0, .ref mo), (1, .int (zI v)), (2, .int (zI x)), (3, .int (zI y))]) hx hb dX4_judge_5 hl (by decide) rfl (fun ls hl => ?_)
    refine lv_iload hx hb dX4_judge_7 (lv_at hl 0 rfl) ?_
    refine lv_iconst (v := zI (-1)) hx hb dX4_judge_9 (by decide +kernel) ?_
    refine g_ceq (tgt := 29) hx hb dX4_judge_10 (by decide) (by omega) (fun h21 => ?_) (fun h21 => ?_)
    · refine lv_aload_n hx hb dX4_judge_29 rfl (lv_at hl 1 rfl) ?_
      refine lv_iconst (v := zI (-1)) hx hb dX4_judge_30 (by decide +kernel) ?_
      refine g_topz (y := -((1 : Nat) : Int)) (by decide) ?_
      refine m_ci (va_runV (As := [.int (zI (-((1 : Nat) : Int)))]) (rest := []) ⟨hx, hb, hml, hown, hts⟩ (metX4_no10 1 (by decide)) (cwV 1 hts (lw_V q3543 q3545 qs59 q102 q3546) rfl rfl rfl (by decide +kernel) ⟨Nat.le_of_ble_eq_true rfl, Nat.le_of_ble_eq_true rfl⟩) (m_preV hG) rfl rfl hl.1 rfl (lv_room (Nat.le_of_ble_eq_true rfl)) dX4_judge_31 ⟨Nat.le_of_ble_eq_true rfl, Nat.le_of_ble_eq_true rfl⟩) hG (fun r_51 S_52 H locs hp hG => ?_)
      obtain ⟨rfl, rfl⟩ := hp
      have hG : mW X mo ad (mNo S 1) s H locs := hG
      exact m_iret hx hb hr hlocks hG (by first | (exfalso; omega) | exact (hX.noT 1 (by unfold opJudge; all_goals ((repeat (first | rw [if_pos (by omega)] | rw [if_neg (by omega)])) <;> rfl)))) ⟨Nat.le_of_ble_eq_true rfl, Nat.le_of_ble_eq_true rfl⟩ dX4_judge_34
    · exfalso; omega

