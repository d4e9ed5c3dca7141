set_option maxRecDepth 100000
/-- but for one array of ints -/
def mAr (S T : mS) (k : Nat) : Prop := T.1 = S.1 ∧ T.2.2 = S.2.2 ∧ ∀ k', k' ≠ k → T.2.1 k' = S.2.1 k'
theorem mAr.rf {S : mS} {k : Nat} : mAr S S k := ⟨rfl, rfl, fun _ _ => rfl⟩
theorem mAr.A {S T : mS} {k : Nat} (h : mAr S T k) (i : Nat) (v : Int) : mAr S (sA T k i v) k := ⟨h.1, h.2.1, fun k' hk => (sA_o hk).trans (h.2.2 k' hk)⟩
theorem mAr.real {S T : mS} {k : Nat} (h : mAr S T k) (hk : 25 ≤ k) : mReal S T := fun j hj => ⟨by rw [h.1], h.2.2 j (by omega), by rw [h.2.1]⟩
theorem lc_b {al : Nat → Nat → Bool} {n m i j : Nat} : lc al n m i j ≤ n + m := Nat.le_trans (lc_le _ _ _) (by omega)
/-- the table so far: the rows behind i, and row i from j1 on -/
def lcR (al : Nat → Nat → Bool) (n m : Nat) (U : mS) (i j1 : Nat) : Prop := (∀ i', i < i' → i' ≤ n → ∀ j, j ≤ m → U.2.1 25 (25 * i' + j) = (lc al n m i' j : Nat)) ∧ ∀ j, j1 ≤ j → j ≤ m → U.2.1 25 (25 * i + j) = (lc al n m i j : Nat)
theorem lcR.put {al : Nat → Nat → Bool} {n m i j : Nat} {U : mS} {v : Int} (h : lcR al n m U i (j + 1)) (hj : j ≤ m) (hm : m ≤ 24) (hv : v = (lc al n m i j : Nat)) : lcR al n m (sA U 25 (25 * i + j) v) i j := by
  refine ⟨fun i' h1 h2 j' h3 => ?_, fun j' h1 h2 => ?_⟩
  · rw [sA_n (by omega)]
    exact h.1 i' h1 h2 j' h3
  · by_cases hjj : j' = j
    · subst hjj; rw [sA_s]; exact hv
    · rw [sA_n (by omega)]
      exact h.2 j' (by omega) h2
/-- where lines go, what is taken, as the reference keeps it -/
def puR (T : mS) (st : PU) : Prop := (∀ x, x < 24 → T.2.1 26 x = oI (st.1 x)) ∧ ∀ x, x < 24 → T.2.1 27 x = bI (st.2 x)
theorem puR.use {T : mS} {st : PU} {x y : Nat} (h : puR T st) : puR (sA (sA T 26 x (y : Int)) 27 y 1) (puUse st x y) := by
  refine ⟨fun z hz => ?_, fun z hz => ?_⟩
  · rw [sA_o (by decide : (26 : Nat) ≠ 27)]
    show _ = oI (va_up st.1 x (some y) z)
    by_cases hx : z = x
    · subst hx; rw [sA_s, va_up_self]; rfl
    · rw [sA_n hx, va_up_ne _ _ hx]; exact h.1 z hz
  · show _ = bI (va_up st.2 y true z)
    by_cases hx : z = y
    · subst hx; rw [sA_s, va_up_self]; rfl
    · rw [sA_n hx, va_up_ne _ _ hx, sA_o (by decide : (27 : Nat) ≠ 26)]; exact h.2 z hz
theorem puR.I {T : mS} {st : PU} {k : Nat} {v : Int} (h : puR T st) : puR (sI T k v) st := h
theorem oI_R (o : Option Nat) (h : ∀ x, o = some x → x < 1000) : -2147483648 ≤ oI o ∧ oI o < 2147483648 := by
  cases o with
  | none => exact ⟨by decide, by decide⟩
  | some x => have := h x rfl; rw [oI_some]; omega
theorem oI_m1 {o : Option Nat} : oI o = -1 ↔ o = none := by
  cases o with
  | none => exact ⟨fun _ => rfl, fun _ => rfl⟩
  | some x => rw [oI_some]; exact ⟨fun h => by omega, fun h => by cases h⟩
theorem bI_0 {b : Bool} : bI b = 0 ↔ b = false := by cases b <;> simp [bI]
theorem bI_R (b : Bool) : -2147483648 ≤ bI b ∧ bI b < 2147483648 := by cases b <;> simp [bI]
/-- all that lines go to lies below the length -/
def puB (st : PU) (n m : Nat) : Prop := ∀ x y, st.1 x = some y → x < n ∧ y < m
theorem puB.use {st : PU} {n m x y : Nat} (h : puB st n m) (hx : x < n) (hy : y < m) : puB (puUse st x y) n m := by
  intro z w hz
  have hz : va_up st.1 x (some y) z = some w := hz
  by_cases hzx : z = x
  · subst hzx; rw [va_up_self] at hz; cases hz; exact ⟨hx, hy⟩
  · rw [va_up_ne _ _ hzx] at hz; exact h z w hz
set_option maxHeartbeats 4000000 in
theorem metX4_isAlike {l : Launch} {X : gX} {mo : Nat} {ad : Nat → Nat} {S : mS} {a i a2 j : Nat} (hS : 24 * a + i < 408 ∧ 24 * a2 + j < 408) : Met l yX4_isAlike (ws_ yX4_isAlike cX4_isAlike 5 (some FieldType.boolean)) ({ frames := 0, cells := 0, slots := 0, locals := 0 }) (mP X mo ad S [.ref mo, .int (zI (a : Int)), .int (zI (i : Int)), .int (zI (a2 : Int)), .int (zI (j : Int))]) (mQi X mo ad (fun u T => ∃ b : Int, u = zI b ∧ ((b = 1 ∧ (S.2.2 3 (24 * a + i) = S.2.2 3 (24 * a2 + j))) ∨ (b = 0 ∧ (S.2.2 3 (24 * a + i) ≠ S.2.2 3 (24 * a2 + j)))) ∧ S = T)) 0 0 (mA mo ad) := by
  refine Met.m (by decide) (Nat.le_of_ble_eq_true rfl) ?_
  intro p e s m below meth c ls hx hb hr hts hown hlocks hml hG hl
  have hl : lv_has ls 5 [(0, .ref mo), (1, .int (zI (a : Int))), (2, .int (zI (i : Int))), (3, .int (zI (a2 : Int))), (4, .int (zI (j : Int)))] := hl
  refine g_join (σ := Int) 32 (fun b => (b = 1 ∧ (S.2.2 3 (24 * a + i) = S.2.2 3 (24 * a2 + j))) ∨ (b = 0 ∧ (S.2.2 3 (24 * a + i) ≠ S.2.2 3 (24 * a2 + j)))) (fun b => [.int (zI b)]) (fun b hJ => ?_) (fun K => ?_)
  · exact m_zret hx hb hr hlocks (by rcases hJ with ⟨rfl, -⟩ | ⟨rfl, -⟩ <;> rfl) hG (⟨b, rfl, hJ, rfl⟩) ⟨Nat.le_of_ble_eq_true rfl, Nat.le_of_ble_eq_true rfl⟩ dX4_isAlike_32
  · refine lv_aload_n hx hb dX4_isAlike_0 rfl (lv_at hl 0 rfl) ?_
    refine m_get 3 (by decide) (v := .ref (ad 3)) rfl hx hb hts hown hG (hts _ q3299) dX4_isAlike_1 ?_
    refine lv_bipush (v := zI 24) hx hb dX4_isAlike_4 (by decide +kernel) ?_
    refine lv_iload_n hx hb dX4_isAlike_6 rfl (lv_at hl 1 rfl) ?_
    refine g_imul hx hb dX4_isAlike_7 ?_
    refine lv_iload_n hx hb dX4_isAlike_8 rfl (lv_at hl 2 rfl) ?_
    refine g_iadd hx hb dX4_isAlike_9 ?_
    refine m_lald 3 rfl rfl (24 * a + i) (v := S.2.2 3 (24 * a + i)) ⟨by omega, by show _ < 408; omega⟩ rfl hx hb hG dX4_isAlike_10 ?_
    refine lv_aload_n hx hb dX4_isAlike_11 rfl (lv_at hl 0 rfl) ?_
    refine m_get 3 (by decide) (v := .ref (ad 3)) rfl hx hb hts hown hG (hts _ q3299) dX4_isAlike_12 ?_
    refine lv_bipush (v := zI 24) hx hb dX4_isAlike_15 (by decide +kernel) ?_
    refine lv_iload_n hx hb dX4_isAlike_17 rfl (lv_at hl 3 rfl) ?_
    refine g_imul hx hb dX4_isAlike_18 ?_
    refine lv_iload hx hb dX4_isAlike_19 (lv_at hl 4 rfl) ?_
    refine g_iadd hx hb dX4_isAlike_21 ?_
    refine m_lald 3 rfl rfl (24 * a2 + j) (v := S.2.2 3 (24 * a2 + j)) ⟨by omega, by show _ < 408; omega⟩ rfl hx hb hG dX4_isAlike_22 ?_
    refine g_lcmp hx hb dX4_isAlike_23 (fun zc_1 hzc_1 => ?_)
    refine g_ne (tgt := 31) hx hb dX4_isAlike_24 (by decide) (zc_lt hzc_1) (fun h1 => ?_) (fun h1 => ?_)
    · refine lv_iconst (v := zI 0) hx hb dX4_isAlike_31 (by decide +kernel) ?_
      exact K 0 (Or.inr ⟨rfl, zc_ne hzc_1 h1⟩)
    · refine lv_iconst (v := zI 1) hx hb dX4_isAlike_27 (by decide +kernel) ?_
      refine lv_goto (tgt := 32) hx hb dX4_isAlike_28 (by decide) ?_
      exact K 1 (Or.inl ⟨rfl, zc_eq hzc_1 h1⟩)

set_option maxHeartbeats 4000000 in
theorem metX4_pairs {l : Launch} {X : gX} {mo : Nat} {ad : Nat → Nat} {S : mS} {a a2 na nc : Nat} {al : Nat → Nat → Bool} (hac : a < 17 ∧ a2 < 17) (hn : S.2.1 2 a = (na : Nat) ∧ na ≤ 24) (hm : S.2.1 2 a2 = (nc : Nat) ∧ nc ≤ 24) (hal : ∀ i j, i < na → j < nc → (al i j = true ↔ S.2.2 3 (24 * a + i) = S.2.2 3 (24 * a2 + j))) (hp : ∀ x, x < 24 → S.2.1 26 x = -1) (hu : ∀ x, x < 24 → S.2.1 27 x = 0) (h28 : S.1 28 = 0) : Met l yX4_pairs (ws_ yX4_pairs cX4_pairs 7 none) ({ frames := 1, cells := 0, slots := 0, locals := 24 }) (mP X mo ad S [.ref mo, .int (zI (a : Int)), .int (zI (a2 : Int))]) (mQv X mo ad (fun T => mReal S T ∧ (∀ x, x < 24 → T.2.1 26 x = oI ((pr0 al na nc).1 x)) ∧ (∀ x, x < 24 → T.2.1 27 x = bI ((pr0 al na nc).2 x)) ∧ T.1 28 = (cnt (pr0 al na nc).1 na : Nat) ∧ T.1 29 = S.1 29)) 0 0 (mA mo ad) := by
  refine Met.m (by decide) (Nat.le_of_ble_eq_true rfl) ?_
  intro p e s m below meth c ls hx hb hr hts hown hlocks hml hG hl
  have hl : lv_has ls 7 [(0, .ref mo), (1, .int (zI (a : Int))), (2, .int (zI (a2 : Int)))] := hl
  refine lv_aload_n hx hb dX4_pairs_0 rfl (lv_at hl 0 rfl) ?_
  refine m_get 2 (by decide) (v := .ref (ad 2)) rfl hx hb hts hown hG (hts _ q3298) dX4_pairs_1 ?_
  refine lv_iload_n hx hb dX4_pairs_4 rfl (lv_at hl 1 rfl) ?_
  refine m_iald 2 rfl rfl (by decide) a (v := (na : Int)) ⟨by omega, by show _ < 17; omega⟩ hn.1 hx hb hG dX4_pairs_5 ?_
  refine lv_istore_n (lv' := [(3, .int (zI (na : Int))), (0, .ref mo), (1, .int (zI (a : Int))), (2, .int (zI (a2 : Int)))]) hx hb dX4_pairs_6 rfl hl (by decide) rfl (fun ls hl => ?_)
  refine lv_aload_n hx hb dX4_pairs_7 rfl (lv_at hl 1 rfl) ?_
  refine m_get 2 (by decide) (v := .ref (ad 2)) rfl hx hb hts hown hG (hts _ q3298) dX4_pairs_8 ?_
  refine lv_iload_n hx hb dX4_pairs_11 rfl (lv_at hl 3 rfl) ?_
  refine m_iald 2 rfl rfl (by decide) a2 (v := (nc : Int)) ⟨by omega, by show _ < 17; omega⟩ hm.1 hx hb hG dX4_pairs_12 ?_
  refine lv_istore (lv' := [(4, .int (zI (nc : Int))), (3, .int (zI (na : Int))), (0, .ref mo), (1, .int (zI (a : Int))), (2, .int (zI (a2 : Int)))]) hx hb dX4_pairs_13 hl (by decide) rfl (fun ls hl => ?_)
  refine lv_iload_n hx hb dX4_pairs_15 rfl (lv_at hl 1 rfl) ?_
  refine lv_istore (lv' := [(5, .int (zI (na : Int))), (4, .int (zI (nc : Int))), (3, .int (zI (na : Int))), (0, .ref mo), (1, .int (zI (a : Int))), (2, .int (zI (a2 : Int)))]) hx hb dX4_pairs_16 hl (by decide) rfl (fun ls hl => ?_)
  have hl : lv_has ls 7 [(5, .int (zI (((na + 1 : Nat) : Int) - 1))), (4, .int (zI (nc : Int))), (3, .int (zI (na : Int))), (0, .ref mo), (1, .int (zI (a : Int))), (2, .int (zI (a2 : Int)))] := by rw [show zI (((na + 1 : Nat) : Int) - 1) = zI (na : Int) from congrArg zI (by omega)]; exact hl
  refine g_loop (fun mz H locs ls => ∃ (i1 : Nat) (T : mS), (i1 ≤ na + 1 ∧ mz = i1 ∧ mAr S T 25 ∧ ∀ i', i1 ≤ i' → i' ≤ na → ∀ j, j ≤ nc → T.2.1 25 (25 * i' + j) = (lc al na nc i' j : Nat)) ∧ mW X mo ad T s H locs ∧ lv_has ls 7 [(0, .ref mo), (1, .int (zI (a : Int))), (2, .int (zI (a2 : Int))), (3, .int (zI (na : Int))), (4, .int (zI (nc : Int))), (5, .int (zI ((i1 : Int) - 1)))]) (na + 1) ⟨(na + 1), S, ⟨by omega, rfl, mAr.rf, fun i' h8 h9 => by omega⟩, hG, (lv_sub hl [3, 4, 5, 2, 1, 0] rfl)⟩ (fun mz ihA H locs ls hI => ?_)
  obtain ⟨i1, T, ⟨hi1, hmz, hT, hrow⟩, hG, hl⟩ := hI
  refine lv_iload hx hb dX4_pairs_18 (lv_at hl 5 rfl) ?_
  refine g_lt (tgt := 168) hx hb dX4_pairs_20 (by decide) (by omega) (fun h1 => ?_) (fun h1 => ?_)
  · refine lv_iconst (v := zI 0) hx hb dX4_pairs_168 (by decide +kernel) ?_
    refine lv_istore (lv' := [(5, .int (zI 0)), (0, .ref mo), (1, .int (zI (a : Int))), (2, .int (zI (a2 : Int))), (3, .int (zI (na : Int))), (4, .int (zI (nc : Int)))]) hx hb dX4_pairs_169 hl (by decide) rfl (fun ls hl => ?_)
    refine lv_iconst (v := zI 0) hx hb dX4_pairs_171 (by decide +kernel) ?_
    refine lv_istore (lv' := [(6, .int (zI 0)), (5, .int (zI 0)), (0, .ref mo), (1, .int (zI (a : Int))), (2, .int (zI (a2 : Int))), (3, .int (zI (na : Int))), (4, .int (zI (nc : Int)))]) hx hb dX4_pairs_172 hl (by decide) rfl (fun ls hl => ?_)
    refine g_loop (fun mz H locs ls => ∃ (i j f : Nat) (st : PU) (U : mS), (i ≤ na ∧ j ≤ nc ∧ mz = (na - i) + (nc - j) ∧ (na - i) + (nc - j) ≤ f ∧ prF al na nc f i j st = pr0 al na nc ∧ mReal S U ∧ puR U st ∧ U.1 28 = (cnt st.1 na : Nat) ∧ U.1 29 = S.1 29 ∧ (∀ x, i ≤ x → st.1 x = none) ∧ ∀ i', i' ≤ na → ∀ j', j' ≤ nc → U.2.1 25 (25 * i' + j') = (lc al na nc i' j' : Nat)) ∧ mW X mo ad U s H locs ∧ lv_has ls 7 [(0, .ref mo), (1, .int (zI (a : Int))), (2, .int (zI (a2 : Int))), (3, .int (zI (na : Int))), (4, .int (zI (nc : Int))), (5, .int (zI (i : Int))), (6, .int (zI (j : Int)))]) ((na - 0) + (nc - 0)) ⟨0, 0, (na + nc), pu0, T, ⟨by omega, by omega, rfl, by omega, rfl, hT.real (by decide), ⟨fun x hx => by rw [hT.2.2 26 (by decide)]; exact hp x hx, fun x hx => by rw [hT.2.2 27 (by decide)]; exact hu x hx⟩, by rw [hT.1, h28]; show _ = ((cnt (fun _ => none) na : Nat) : Int); rw [cnt_0]; rfl, by rw [hT.1], fun x _ => rfl, fun i' h8 j' h9 => hrow i' (by omega) h8 j' h9⟩, hG, (lv_sub hl [2, 3, 4, 5, 6, 1, 0] rfl)⟩ (fun mz ihB H locs ls hI => ?_)
    obtain ⟨i, j, f, st, U, ⟨hi1, hj1, hmz, hff, hf, hre, hpu, hc28, hc29, hz, hLC⟩, hG, hl⟩ := hI
    refine lv_iload hx hb dX4_pairs_174 (lv_at hl 5 rfl) ?_
    refine lv_iload_n hx hb dX4_pairs_176 rfl (lv_at hl 3 rfl) ?_
    refine g_cge (tgt := 282) hx hb dX4_pairs_177 (by decide) (by omega) (fun h1 => ?_) (fun h1 => ?_)
    · exact m_vret hx hb hr hlocks hG (⟨hre, by rw [← hf, prF_out (by omega)]; exact hpu.1, by rw [← hf, prF_out (by omega)]; exact hpu.2, by rw [← hf, prF_out (by omega)]; exact hc28, hc29⟩) ⟨Nat.le_of_ble_eq_true rfl, Nat.le_of_ble_eq_true rfl⟩ dX4_pairs_282
    · refine lv_iload hx hb dX4_pairs_180 (lv_at hl 6 rfl) ?_
      refine lv_iload hx hb dX4_pairs_182 (lv_at hl 4 rfl) ?_
      refine g_cge (tgt := 282) hx hb dX4_pairs_184 (by decide) (by omega) (fun h2 => ?_) (fun h2 => ?_)
      · exact m_vret hx hb hr hlocks hG (⟨hre, by rw [← hf, prF_out (by omega)]; exact hpu.1, by rw [← hf, prF_out (by omega)]; exact hpu.2, by rw [← hf, prF_out (by omega)]; exact hc28, hc29⟩) ⟨Nat.le_of_ble_eq_true rfl, Nat.le_of_ble_eq_true rfl⟩ dX4_pairs_282
      · obtain ⟨f, rfl⟩ : ∃ g, f = g + 1 := ⟨f - 1, by omega⟩
        have hLL : U.2.2 3 = S.2.2 3 := (hre 3 (by decide)).2.2
        refine lv_aload_n hx hb dX4_pairs_187 rfl (lv_at hl 0 rfl) ?_
        refine lv_iload_n hx hb dX4_pairs_188 rfl (lv_at hl 1 rfl) ?_
        refine lv_iload hx hb dX4_pairs_189 (lv_at hl 5 rfl) ?_
        refine lv_iload_n hx hb dX4_pairs_191 rfl (lv_at hl 2 rfl) ?_
        refine lv_iload hx hb dX4_pairs_192 (lv_at hl 6 rfl) ?_
        refine m_ci (va_runV (As := [.int (zI (a : Int)), .int (zI (i : Int)), .int (zI (a2 : Int)), .int (zI (j : Int))]) (rest := []) ⟨hx, hb, hml, hown, hts⟩ (metX4_isAlike (by omega)) (cwV 4 hts (lw_V q3509 q3511 qs55 q102 q3512) rfl rfl rfl (by decide +kernel) ⟨Nat.le_of_ble_eq_true rfl, Nat.le_of_ble_eq_true rfl⟩) (m_preV hG) rfl rfl hl.1 rfl (lv_room (Nat.le_of_ble_eq_true rfl)) dX4_pairs_194 ⟨Nat.le_of_ble_eq_true rfl, Nat.le_of_ble_eq_true rfl⟩) hG (fun r_1 S_2 H locs hp hG => ?_)
        obtain ⟨b3, rfl, hb3, rfl⟩ := hp
        have hG : mW X mo ad U s H locs := hG
        rw [hLL] at hb3
        have ha3 : (b3 = 1 ∧ al i j = true) ∨ (b3 = 0 ∧ ¬ al i j = true) := hb3.elim (fun q => Or.inl ⟨q.1, (hal _ _ (by omega) (by omega)).mpr q.2⟩) (fun q => Or.inr ⟨q.1, fun z => q.2 ((hal _ _ (by omega) (by omega)).mp z)⟩)
        refine g_eq (tgt := 236) hx hb dX4_pairs_197 (by decide) (by omega) (fun h4 => ?_) (fun h4 => ?_)
        · have hA : ¬ al i j = true := ha3.elim (fun q => absurd q.1 (by omega)) (fun q => q.2)
          have g1 := @lc_b al na nc (i + 1) j
          have g2 := @lc_b al na nc i (j + 1)
          refine lv_aload_n hx hb dX4_pairs_236 rfl (lv_at hl 0 rfl) ?_
          refine m_get 25 (by decide) (v := .ref (ad 25)) rfl hx hb hts hown hG (hts _ q3321) dX4_pairs_237 ?_
          refine lv_bipush (v := zI 25) hx hb dX4_pairs_240 (by decide +kernel) ?_
          refine lv_iload hx hb dX4_pairs_242 (lv_at hl 5 rfl) ?_
          refine g_imul hx hb dX4_pairs_244 ?_
          refine lv_iload hx hb dX4_pairs_245 (lv_at hl 6 rfl) ?_
          refine g_iadd hx hb dX4_pairs_247 ?_
          refine lv_bipush (v := zI 25) hx hb dX4_pairs_248 (by decide +kernel) ?_
          refine g_iadd hx hb dX4_pairs_250 ?_
          refine m_iald 25 rfl rfl (by decide) (25 * (i + 1) + j) (v := (lc al na nc (i + 1) j : Nat)) ⟨by omega, by show _ < 625; omega⟩ (hLC (i + 1) (by omega) j (by omega)) hx hb hG dX4_pairs_251 ?_
          refine lv_aload_n hx hb dX4_pairs_252 rfl (lv_at hl 0 rfl) ?_
          refine m_get 25 (by decide) (v := .ref (ad 25)) rfl hx hb hts hown hG (hts _ q3321) dX4_pairs_253 ?_
          refine lv_bipush (v := zI 25) hx hb dX4_pairs_256 (by decide +kernel) ?_
          refine lv_iload hx hb dX4_pairs_258 (lv_at hl 5 rfl) ?_
          refine g_imul hx hb dX4_pairs_260 ?_
          refine lv_iload hx hb dX4_pairs_261 (lv_at hl 6 rfl) ?_
          refine g_iadd hx hb dX4_pairs_263 ?_
          refine lv_iconst (v := zI 1) hx hb dX4_pairs_264 (by decide +kernel) ?_
          refine g_iadd hx hb dX4_pairs_265 ?_
          refine m_iald 25 rfl rfl (by decide) (25 * i + (j + 1)) (v := (lc al na nc i (j + 1) : Nat)) ⟨by omega, by show _ < 625; omega⟩ (hLC i (by omega) (j + 1) (by omega)) hx hb hG dX4_pairs_266 ?_
          refine g_clt (tgt := 276) hx hb dX4_pairs_267 (by decide) (by omega) (fun h5 => ?_) (fun h5 => ?_)
          · refine lv_iinc (v := zI ((j : Int) + 1 : Int)) (lv' := [(6, .int (zI ((j : Int) + 1 : Int))), (0, .ref mo), (1, .int (zI (a : Int))), (2, .int (zI (a2 : Int))), (3, .int (zI (na : Int))), (4, .int (zI (nc : Int))), (5, .int (zI (i : Int)))]) hx hb dX4_pairs_276 hl (k := 6) rfl ((zI_add _ _).trans (congrArg zI (by omega))) (by decide) rfl (fun ls hl => ?_)
            refine lv_goto (tgt := 174) hx hb dX4_pairs_279 (by decide) ?_
            exact ihB ((na - i) + (nc - (j + 1))) (by omega) H locs ls ⟨i, (j + 1), f, st, U, ⟨by omega, by omega, by omega, by omega, by rw [← hf, prF_rt (by omega) (by omega) hA (by omega)], hre, hpu, hc28, hc29, hz, hLC⟩, hG, (lv_sub hl [1, 2, 3, 4, 5, 6, 0] rfl)⟩
          · refine lv_iinc (v := zI ((i : Int) + 1 : Int)) (lv' := [(5, .int (zI ((i : Int) + 1 : Int))), (0, .ref mo), (1, .int (zI (a : Int))), (2, .int (zI (a2 : Int))), (3, .int (zI (na : Int))), (4, .int (zI (nc : Int))), (6, .int (zI (j : Int)))]) hx hb dX4_pairs_270 hl (k := 5) rfl ((zI_add _ _).trans (congrArg zI (by omega))) (by decide) rfl (fun ls hl => ?_)
            refine lv_goto (tgt := 174) hx hb dX4_pairs_273 (by decide) ?_
            exact ihB ((na - (i + 1)) + (nc - j)) (by omega) H locs ls ⟨(i + 1), j, f, st, U, ⟨by omega, by omega, by omega, by omega, by rw [← hf, prF_dn (by omega) (by omega) hA (by omega)], hre, hpu, hc28, hc29, fun x hx => hz x (by omega), hLC⟩, hG, (lv_sub hl [1, 2, 3, 4, 5, 0, 6] rfl)⟩
        · have hA : al i j = true := ha3.elim (fun q => q.2) (fun q => absurd q.1 (by omega))
          refine lv_aload_n hx hb dX4_pairs_200 rfl (lv_at hl 0 rfl) ?_
          refine m_get 26 (by decide) (v := .ref (ad 26)) rfl hx hb hts hown hG (hts _ q3322) dX4_pairs_201 ?_
          refine lv_iload hx hb dX4_pairs_204 (lv_at hl 5 rfl) ?_
          refine lv_iload hx hb dX4_pairs_206 (lv_at hl 6 rfl) ?_
          refine m_iast 26 rfl rfl (by decide) i ⟨by omega, by show _ < 24; omega⟩ hx hb hG dX4_pairs_208 (fun H locs (hG : mW X mo ad (sA U 26 i (j : Int)) s H locs) => ?_)
          refine lv_aload_n hx hb dX4_pairs_209 rfl (lv_at hl 0 rfl) ?_
          refine m_get 27 (by decide) (v := .ref (ad 27)) rfl hx hb hts hown hG (hts _ q3323) dX4_pairs_210 ?_
          refine lv_iload hx hb dX4_pairs_213 (lv_at hl 6 rfl) ?_
          refine lv_iconst (v := zI 1) hx hb dX4_pairs_215 (by decide +kernel) ?_
          refine m_zast j ⟨by omega, by omega⟩ (by decide +kernel) hx hb hG dX4_pairs_216 (fun H locs (hG : mW X mo ad (sA (sA U 26 i (j : Int)) 27 j 1) s H locs) => ?_)
          refine lv_aload_n hx hb dX4_pairs_217 rfl (lv_at hl 0 rfl) ?_
          refine lv_dup hx hb dX4_pairs_218 rfl ?_
          refine m_get 28 (by decide) (v := .int (zI ((sA (sA U 26 i (j : Int)) 27 j 1).1 28))) rfl hx hb hts hown hG (hts _ q3324) dX4_pairs_219 ?_
          refine lv_iconst (v := zI 1) hx hb dX4_pairs_222 (by decide +kernel) ?_
          refine g_iadd hx hb dX4_pairs_223 ?_
          refine m_put 28 (by decide) rfl rfl (tyX4_ok 28 (by decide)) rfl rfl hx hb hts hown hG (hts _ q3324) dX4_pairs_224 (fun H locs (hG : mW X mo ad (sI (sA (sA U 26 i (j : Int)) 27 j 1) 28 ((sA (sA U 26 i (j : Int)) 27 j 1).1 28 + 1)) s H locs) => ?_)
          refine lv_iinc (v := zI ((i : Int) + 1 : Int)) (lv' := [(5, .int (zI ((i : Int) + 1 : Int))), (0, .ref mo), (1, .int (zI (a : Int))), (2, .int (zI (a2 : Int))), (3, .int (zI (na : Int))), (4, .int (zI (nc : Int))), (6, .int (zI (j : Int)))]) hx hb dX4_pairs_227 hl (k := 5) rfl ((zI_add _ _).trans (congrArg zI (by omega))) (by decide) rfl (fun ls hl => ?_)
          refine lv_iinc (v := zI ((j : Int) + 1 : Int)) (lv' := [(6, .int (zI ((j : Int) + 1 : Int))), (5, .int (zI ((i : Int) + 1 : Int))), (0, .ref mo), (1, .int (zI (a : Int))), (2, .int (zI (a2 : Int))), (3, .int (zI (na : Int))), (4, .int (zI (nc : Int)))]) hx hb dX4_pairs_230 hl (k := 6) rfl ((zI_add _ _).trans (congrArg zI (by omega))) (by decide) rfl (fun ls hl => ?_)
          refine lv_goto (tgt := 174) hx hb dX4_pairs_233 (by decide) ?_
          exact ihB ((na - (i + 1)) + (nc - (j + 1))) (by omega) H locs ls ⟨(i + 1), (j + 1), f, (puUse st i j), (sI (sA (sA U 26 i (j : Int)) 27 j 1) 28 (U.1 28 + 1)), ⟨by omega, by omega, by omega, by omega, by rw [← hf, prF_hit (by omega) (by omega) hA], ((hre.A (by decide) i _).A (by decide) j 1).I (by decide) _, hpu.use, by rw [sI_s, hc28]; show _ = ((cnt (va_up st.1 i (some j)) na : Nat) : Int); rw [cnt_up (hz i (Nat.le_refl _)) (by omega)]; omega, hc29, fun x hx => by show va_up st.1 i (some j) x = none; rw [va_up_ne _ _ (by omega : x ≠ i)]; exact hz x (by omega), by rw [sI_a, sA_o (by decide : (25 : Nat) ≠ 27), sA_o (by decide : (25 : Nat) ≠ 26)]; exact hLC⟩, hG, (lv_sub hl [2, 3, 4, 5, 6, 1, 0] rfl)⟩
  · obtain ⟨i, rfl⟩ : ∃ i, i1 = i + 1 := ⟨i1 - 1, by omega⟩
    have hl : lv_has ls 7 [(0, .ref mo), (1, .int (zI (a : Int))), (2, .int (zI (a2 : Int))), (3, .int (zI (na : Int))), (4, .int (zI (nc : Int))), (5, .int (zI (i : Int)))] := by rw [show zI (i : Int) = zI (((i + 1 : Nat) : Int) - 1) from congrArg zI (by omega)]; exact hl
    refine lv_iload hx hb dX4_pairs_23 (lv_at hl 4 rfl) ?_
    refine lv_istore (lv' := [(6, .int (zI (nc : Int))), (0, .ref mo), (1, .int (zI (a : Int))), (2, .int (zI (a2 : Int))), (3, .int (zI (na : Int))), (4, .int (zI (nc : Int))), (5, .int (zI (i : Int)))]) hx hb dX4_pairs_25 hl (by decide) rfl (fun ls hl => ?_)
    have hl : lv_has ls 7 [(6, .int (zI (((nc + 1 : Nat) : Int) - 1))), (0, .ref mo), (1, .int (zI (a : Int))), (2, .int (zI (a2 : Int))), (3, .int (zI (na : Int))), (4, .int (zI (nc : Int))), (5, .int (zI (i : Int)))] := by rw [show zI (((nc + 1 : Nat) : Int) - 1) = zI (nc : Int) from congrArg zI (by omega)]; exact hl
    refine g_loop (fun mz H locs ls => ∃ (j1 : Nat) (U : mS), (j1 ≤ nc + 1 ∧ mz = j1 ∧ mAr S U 25 ∧ lcR al na nc U i j1) ∧ mW X mo ad U s H locs ∧ lv_has ls 7 [(0, .ref mo), (1, .int (zI (a : Int))), (2, .int (zI (a2 : Int))), (3, .int (zI (na : Int))), (4, .int (zI (nc : Int))), (5, .int (zI (i : Int))), (6, .int (zI ((j1 : Int) - 1)))]) (nc + 1) ⟨(nc + 1), T, ⟨by omega, rfl, hT, ⟨fun i' h8 h9 j hj => hrow i' (by omega) h9 j hj, fun j h8 h9 => by omega⟩⟩, hG, (lv_sub hl [1, 2, 3, 4, 5, 6, 0] rfl)⟩ (fun mz ihC H locs ls hI => ?_)
    obtain ⟨j1, U, ⟨hj1, hmz, hU, hR⟩, hG, hl⟩ := hI
    refine lv_iload hx hb dX4_pairs_27 (lv_at hl 6 rfl) ?_
    refine g_lt (tgt := 162) hx hb dX4_pairs_29 (by decide) (by omega) (fun h2 => ?_) (fun h2 => ?_)
    · refine lv_iinc (v := zI ((i : Int) - 1 : Int)) (lv' := [(5, .int (zI ((i : Int) - 1 : Int))), (0, .ref mo), (1, .int (zI (a : Int))), (2, .int (zI (a2 : Int))), (3, .int (zI (na : Int))), (4, .int (zI (nc : Int))), (6, .int (zI ((j1 : Int) - 1)))]) hx hb dX4_pairs_162 hl (k := 5) rfl ((zI_add _ _).trans (congrArg zI (by omega))) (by decide) rfl (fun ls hl => ?_)
      refine lv_goto (tgt := 18) hx hb dX4_pairs_165 (by decide) ?_
      exact ihA i (by omega) H locs ls ⟨i, U, ⟨by omega, rfl, hU, fun i' h8 h9 j hj => (Nat.lt_or_ge i i').elim (fun q => hR.1 i' q h9 j hj) (fun q => by rw [show i' = i by omega]; exact hR.2 j (by omega) hj)⟩, hG, (lv_sub hl [1, 2, 3, 4, 5, 0] rfl)⟩
    · obtain ⟨j, rfl⟩ : ∃ j, j1 = j + 1 := ⟨j1 - 1, by omega⟩
      have hl : lv_has ls 7 [(0, .ref mo), (1, .int (zI (a : Int))), (2, .int (zI (a2 : Int))), (3, .int (zI (na : Int))), (4, .int (zI (nc : Int))), (5, .int (zI (i : Int))), (6, .int (zI (j : Int)))] := by rw [show zI (j : Int) = zI (((j + 1 : Nat) : Int) - 1) from congrArg zI (by omega)]; exact hl
      refine lv_iload hx hb dX4_pairs_32 (lv_at hl 5 rfl) ?_
      refine lv_iload_n hx hb dX4_pairs_34 rfl (lv_at hl 3 rfl) ?_
      refine g_ceq (tgt := 45) hx hb dX4_pairs_35 (by decide) (by omega) (fun h3 => ?_) (fun h3 => ?_)
      · refine lv_aload_n hx hb dX4_pairs_45 rfl (lv_at hl 0 rfl) ?_
        refine m_get 25 (by decide) (v := .ref (ad 25)) rfl hx hb hts hown hG (hts _ q3321) dX4_pairs_46 ?_
        refine lv_bipush (v := zI 25) hx hb dX4_pairs_49 (by decide +kernel) ?_
        refine lv_iload hx hb dX4_pairs_51 (lv_at hl 5 rfl) ?_
        refine g_imul hx hb dX4_pairs_53 ?_
        refine lv_iload hx hb dX4_pairs_54 (lv_at hl 6 rfl) ?_
        refine g_iadd hx hb dX4_pairs_56 ?_
        refine lv_iconst (v := zI 0) hx hb dX4_pairs_57 (by decide +kernel) ?_
        refine m_iast 25 rfl rfl (by decide) (25 * i + j) ⟨by omega, by show _ < 625; omega⟩ hx hb hG dX4_pairs_58 (fun H locs (hG : mW X mo ad (sA U 25 (25 * i + j) 0) s H locs) => ?_)
        refine lv_goto (tgt := 156) hx hb dX4_pairs_59 (by decide) ?_
        refine lv_iinc (v := zI ((j : Int) - 1 : Int)) (lv' := [(6, .int (zI ((j : Int) - 1 : Int))), (0, .ref mo), (1, .int (zI (a : Int))), (2, .int (zI (a2 : Int))), (3, .int (zI (na : Int))), (4, .int (zI (nc : Int))), (5, .int (zI (i : Int)))]) hx hb dX4_pairs_156 hl (k := 6) rfl ((zI_add _ _).trans (congrArg zI (by omega))) (by decide) rfl (fun ls hl => ?_)
        refine lv_goto (tgt := 27) hx hb dX4_pairs_159 (by decide) ?_
        exact ihC j (by omega) H locs ls ⟨j, (sA U 25 (25 * i + j) 0), ⟨by omega, rfl, hU.A _ _, hR.put (by omega) (by omega) (by rw [lc_out (by omega)]; rfl)⟩, hG, (lv_sub hl [1, 2, 3, 4, 5, 6, 0] rfl)⟩
      · refine lv_iload hx hb dX4_pairs_38 (lv_at hl 6 rfl) ?_
        refine lv_iload hx hb dX4_pairs_40 (lv_at hl 4 rfl) ?_
        refine g_cne (tgt := 62) hx hb dX4_pairs_42 (by decide) (by omega) (fun h4 => ?_) (fun h4 => ?_)
        · have hLL : U.2.2 3 = S.2.2 3 := by rw [hU.2.1]
          refine lv_aload_n hx hb dX4_pairs_62 rfl (lv_at hl 0 rfl) ?_
          refine lv_iload_n hx hb dX4_pairs_63 rfl (lv_at hl 1 rfl) ?_
          refine lv_iload hx hb dX4_pairs_64 (lv_at hl 5 rfl) ?_
          refine lv_iload_n hx hb dX4_pairs_66 rfl (lv_at hl 2 rfl) ?_
          refine lv_iload hx hb dX4_pairs_67 (lv_at hl 6 rfl) ?_
          refine m_ci (va_runV (As := [.int (zI (a : Int)), .int (zI (i : Int)), .int (zI (a2 : Int)), .int (zI (j : Int))]) (rest := []) ⟨hx, hb, hml, hown, hts⟩ (metX4_isAlike (by omega)) (cwV 4 hts (lw_V q3509 q3511 qs55 q102 q3512) rfl rfl rfl (by decide +kernel) ⟨Nat.le_of_ble_eq_true rfl, Nat.le_of_ble_eq_true rfl⟩) (m_preV hG) rfl rfl hl.1 rfl (lv_room (Nat.le_of_ble_eq_true rfl)) dX4_pairs_69 ⟨Nat.le_of_ble_eq_true rfl, Nat.le_of_ble_eq_true rfl⟩) hG (fun r_3 S_4 H locs hp hG => ?_)
          obtain ⟨b5, rfl, hb5, rfl⟩ := hp
          have hG : mW X mo ad U s H locs := hG
          rw [hLL] at hb5
          have ha5 : (b5 = 1 ∧ al i j = true) ∨ (b5 = 0 ∧ ¬ al i j = true) := hb5.elim (fun q => Or.inl ⟨q.1, (hal _ _ (by omega) (by omega)).mpr q.2⟩) (fun q => Or.inr ⟨q.1, fun z => q.2 ((hal _ _ (by omega) (by omega)).mp z)⟩)
          have g0 := @lc_in al na nc i j (by omega) (by omega)
          refine g_eq (tgt := 109) hx hb dX4_pairs_72 (by decide) (by omega) (fun h6 => ?_) (fun h6 => ?_)
          · rw [if_neg (ha5.elim (fun q => absurd q.1 (by omega)) (fun q => q.2))] at g0
            have g1 := @lc_b al na nc (i + 1) j
            have g2 := @lc_b al na nc i (j + 1)
            refine lv_aload_n hx hb dX4_pairs_109 rfl (lv_at hl 0 rfl) ?_
            refine m_get 25 (by decide) (v := .ref (ad 25)) rfl hx hb hts hown hG (hts _ q3321) dX4_pairs_110 ?_
            refine lv_bipush (v := zI 25) hx hb dX4_pairs_113 (by decide +kernel) ?_
            refine lv_iload hx hb dX4_pairs_115 (lv_at hl 5 rfl) ?_
            refine g_imul hx hb dX4_pairs_117 ?_
            refine lv_iload hx hb dX4_pairs_118 (lv_at hl 6 rfl) ?_
            refine g_iadd hx hb dX4_pairs_120 ?_
            refine lv_aload_n hx hb dX4_pairs_121 rfl (lv_at hl 0 rfl) ?_
            refine m_get 25 (by decide) (v := .ref (ad 25)) rfl hx hb hts hown hG (hts _ q3321) dX4_pairs_122 ?_
            refine lv_bipush (v := zI 25) hx hb dX4_pairs_125 (by decide +kernel) ?_
            refine lv_iload hx hb dX4_pairs_127 (lv_at hl 5 rfl) ?_
            refine g_imul hx hb dX4_pairs_129 ?_
            refine lv_iload hx hb dX4_pairs_130 (lv_at hl 6 rfl) ?_
            refine g_iadd hx hb dX4_pairs_132 ?_
            refine lv_bipush (v := zI 25) hx hb dX4_pairs_133 (by decide +kernel) ?_
            refine g_iadd hx hb dX4_pairs_135 ?_
            refine m_iald 25 rfl rfl (by decide) (25 * (i + 1) + j) (v := (lc al na nc (i + 1) j : Nat)) ⟨by omega, by show _ < 625; omega⟩ (hR.1 (i + 1) (by omega) (by omega) j (by omega)) hx hb hG dX4_pairs_136 ?_
            refine lv_aload_n hx hb dX4_pairs_137 rfl (lv_at hl 0 rfl) ?_
            refine m_get 25 (by decide) (v := .ref (ad 25)) rfl hx hb hts hown hG (hts _ q3321) dX4_pairs_138 ?_
            refine lv_bipush (v := zI 25) hx hb dX4_pairs_141 (by decide +kernel) ?_
            refine lv_iload hx hb dX4_pairs_143 (lv_at hl 5 rfl) ?_
            refine g_imul hx hb dX4_pairs_145 ?_
            refine lv_iload hx hb dX4_pairs_146 (lv_at hl 6 rfl) ?_
            refine g_iadd hx hb dX4_pairs_148 ?_
            refine lv_iconst (v := zI 1) hx hb dX4_pairs_149 (by decide +kernel) ?_
            refine g_iadd hx hb dX4_pairs_150 ?_
            refine m_iald 25 rfl rfl (by decide) (25 * i + (j + 1)) (v := (lc al na nc i (j + 1) : Nat)) ⟨by omega, by show _ < 625; omega⟩ (hR.2 (j + 1) (by omega) (by omega)) hx hb hG dX4_pairs_151 ?_
            refine g_max hx hb (hml.trans hl.1.symm) hts hown (hts _ q3513) ⟨Nat.le_of_ble_eq_true rfl, Nat.le_of_ble_eq_true rfl, Nat.le_of_ble_eq_true rfl, Nat.le_of_ble_eq_true rfl⟩ (by omega) dX4_pairs_152 ?_
            refine m_iast 25 rfl rfl (by decide) (25 * i + j) ⟨by omega, by show _ < 625; omega⟩ hx hb hG dX4_pairs_155 (fun H locs (hG : mW X mo ad (sA U 25 (25 * i + j) (max (lc al na nc (i + 1) j : Nat) (lc al na nc i (j + 1) : Nat))) s H locs) => ?_)
            refine lv_iinc (v := zI ((j : Int) - 1 : Int)) (lv' := [(6, .int (zI ((j : Int) - 1 : Int))), (0, .ref mo), (1, .int (zI (a : Int))), (2, .int (zI (a2 : Int))), (3, .int (zI (na : Int))), (4, .int (zI (nc : Int))), (5, .int (zI (i : Int)))]) hx hb dX4_pairs_156 hl (k := 6) rfl ((zI_add _ _).trans (congrArg zI (by omega))) (by decide) rfl (fun ls hl => ?_)
            refine lv_goto (tgt := 27) hx hb dX4_pairs_159 (by decide) ?_
            exact ihC j (by omega) H locs ls ⟨j, (sA U 25 (25 * i + j) (max (lc al na nc (i + 1) j : Nat) (lc al na nc i (j + 1) : Nat))), ⟨by omega, rfl, hU.A _ _, hR.put (by omega) (by omega) (by omega)⟩, hG, (lv_sub hl [1, 2, 3, 4, 5, 6, 0] rfl)⟩
          · rw [if_pos (ha5.elim (fun q => q.2) (fun q => absurd q.1 (by omega)))] at g0
            refine lv_aload_n hx hb dX4_pairs_75 rfl (lv_at hl 0 rfl) ?_
            refine m_get 25 (by decide) (v := .ref (ad 25)) rfl hx hb hts hown hG (hts _ q3321) dX4_pairs_76 ?_
            refine lv_bipush (v := zI 25) hx hb dX4_pairs_79 (by decide +kernel) ?_
            refine lv_iload hx hb dX4_pairs_81 (lv_at hl 5 rfl) ?_
            refine g_imul hx hb dX4_pairs_83 ?_
            refine lv_iload hx hb dX4_pairs_84 (lv_at hl 6 rfl) ?_
            refine g_iadd hx hb dX4_pairs_86 ?_
            refine lv_aload_n hx hb dX4_pairs_87 rfl (lv_at hl 0 rfl) ?_
            refine m_get 25 (by decide) (v := .ref (ad 25)) rfl hx hb hts hown hG (hts _ q3321) dX4_pairs_88 ?_
            refine lv_bipush (v := zI 25) hx hb dX4_pairs_91 (by decide +kernel) ?_
            refine lv_iload hx hb dX4_pairs_93 (lv_at hl 5 rfl) ?_
            refine g_imul hx hb dX4_pairs_95 ?_
            refine lv_iload hx hb dX4_pairs_96 (lv_at hl 6 rfl) ?_
            refine g_iadd hx hb dX4_pairs_98 ?_
            refine lv_bipush (v := zI 26) hx hb dX4_pairs_99 (by decide +kernel) ?_
            refine g_iadd hx hb dX4_pairs_101 ?_
            refine m_iald 25 rfl rfl (by decide) (25 * (i + 1) + (j + 1)) (v := (lc al na nc (i + 1) (j + 1) : Nat)) ⟨by omega, by show _ < 625; omega⟩ (hR.1 (i + 1) (by omega) (by omega) (j + 1) (by omega)) hx hb hG dX4_pairs_102 ?_
            refine lv_iconst (v := zI 1) hx hb dX4_pairs_103 (by decide +kernel) ?_
            refine g_iadd hx hb dX4_pairs_104 ?_
            refine m_iast 25 rfl rfl (by decide) (25 * i + j) ⟨by omega, by show _ < 625; omega⟩ hx hb hG dX4_pairs_105 (fun H locs (hG : mW X mo ad (sA U 25 (25 * i + j) ((lc al na nc (i + 1) (j + 1) : Nat) + 1)) s H locs) => ?_)
            refine lv_goto (tgt := 156) hx hb dX4_pairs_106 (by decide) ?_
            refine lv_iinc (v := zI ((j : Int) - 1 : Int)) (lv' := [(6, .int (zI ((j : Int) - 1 : Int))), (0, .ref mo), (1, .int (zI (a : Int))), (2, .int (zI (a2 : Int))), (3, .int (zI (na : Int))), (4, .int (zI (nc : Int))), (5, .int (zI (i : Int)))]) hx hb dX4_pairs_156 hl (k := 6) rfl ((zI_add _ _).trans (congrArg zI (by omega))) (by decide) rfl (fun ls hl => ?_)
            refine lv_goto (tgt := 27) hx hb dX4_pairs_159 (by decide) ?_
            exact ihC j (by omega) H locs ls ⟨j, (sA U 25 (25 * i + j) ((lc al na nc (i + 1) (j + 1) : Nat) + 1)), ⟨by omega, rfl, hU.A _ _, hR.put (by omega) (by omega) (by omega)⟩, hG, (lv_sub hl [1, 2, 3, 4, 5, 6, 0] rfl)⟩
        · refine lv_aload_n hx hb dX4_pairs_45 rfl (lv_at hl 0 rfl) ?_
          refine m_get 25 (by decide) (v := .ref (ad 25)) rfl hx hb hts hown hG (hts _ q3321) dX4_pairs_46 ?_
          refine lv_bipush (v := zI 25) hx hb dX4_pairs_49 (by decide +kernel) ?_
          refine lv_iload hx hb dX4_pairs_51 (lv_at hl 5 rfl) ?_
          refine g_imul hx hb dX4_pairs_53 ?_
          refine lv_iload hx hb dX4_pairs_54 (lv_at hl 6 rfl) ?_
          refine g_iadd hx hb dX4_pairs_56 ?_
          refine lv_iconst (v := zI 0) hx hb dX4_pairs_57 (by decide +kernel) ?_
          refine m_iast 25 rfl rfl (by decide) (25 * i + j) ⟨by omega, by show _ < 625; omega⟩ hx hb hG dX4_pairs_58 (fun H locs (hG : mW X mo ad (sA U 25 (25 * i + j) 0) s H locs) => ?_)
          refine lv_goto (tgt := 156) hx hb dX4_pairs_59 (by decide) ?_
          refine lv_iinc (v := zI ((j : Int) - 1 : Int)) (lv' := [(6, .int (zI ((j : Int) - 1 : Int))), (0, .ref mo), (1, .int (zI (a : Int))), (2, .int (zI (a2 : Int))), (3, .int (zI (na : Int))), (4, .int (zI (nc : Int))), (5, .int (zI (i : Int)))]) hx hb dX4_pairs_156 hl (k := 6) rfl ((zI_add _ _).trans (congrArg zI (by omega))) (by decide) rfl (fun ls hl => ?_)
          refine lv_goto (tgt := 27) hx hb dX4_pairs_159 (by decide) ?_
          exact ihC j (by omega) H locs ls ⟨j, (sA U 25 (25 * i + j) 0), ⟨by omega, rfl, hU.A _ _, hR.put (by omega) (by omega) (by rw [lc_out (by omega)]; rfl)⟩, hG, (lv_sub hl [1, 2, 3, 4, 5, 6, 0] rfl)⟩

