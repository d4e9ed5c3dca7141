set_option maxRecDepth 100000
theorem puR.b {T : mS} {st : PU} {n m x : Nat} (h : puR T st) (hb : puB st n m) (hm : m ≤ 24) (hx : x < 24) : -2147483648 ≤ T.2.1 26 x ∧ T.2.1 26 x < 2147483648 := by
  rw [h.1 x hx]
  exact oI_R _ fun y hy => by have := hb x y hy; omega
theorem mvUse_B {st : PU} {n m i j : Nat} (h : puB st n m) : ∀ k, i + k ≤ n → j + k ≤ m → puB (mvUse st i j k) n m := by
  intro k
  induction k with
  | zero => intro _ _; exact h
  | succ k ih => intro h1 h2; exact (ih (by omega) (by omega)).use (by omega) (by omega)
theorem prF_B {al : Nat → Nat → Bool} {n m : Nat} : ∀ f i j st, puB st n m → puB (prF al n m f i j st) n m := by
  intro f
  induction f with
  | zero => intro i j st h; exact h
  | succ f ih =>
    intro i j st h
    unfold prF
    split
    · exact h
    · split
      · exact ih _ _ _ (h.use (by omega) (by omega))
      · split
        · exact ih _ _ _ h
        · exact ih _ _ _ h
theorem pr0_B {al : Nat → Nat → Bool} {n m : Nat} : puB (pr0 al n m) n m := prF_B _ _ _ _ (fun x y h => by cases h)
theorem bsJ_le {al : Nat → Nat → Bool} {n m i : Nat} {s : PU} (j : Nat) : (bsJ al n m s i j (bsI al n m s i (0, 0, 0))).1 ≤ n := by
  rcases bsJ_P (al := al) (n := n) (m := m) (s := s) (i := i) (bsI_P i) j with q | q
  · omega
  · have := @rn_le al n m (bsJ al n m s i j (bsI al n m s i (0, 0, 0))).2.1 (bsJ al n m s i j (bsI al n m s i (0, 0, 0))).2.2 s
    omega
set_option maxHeartbeats 4000000 in
theorem metX4_run {l : Launch} {X : gX} {mo : Nat} {ad : Nat → Nat} {S : mS} {a a2 na nc i0 j0 : Nat} {st : PU} {al : Nat → Nat → Bool} (hac : a < 17 ∧ a2 < 17) (hn : S.2.1 2 a = (na : Nat) ∧ na ≤ 24) (hm : S.2.1 2 a2 = (nc : Nat) ∧ nc ≤ 24) (hal : ∀ i j, i < na → j < nc → (al i j = true ↔ S.2.2 3 (24 * a + i) = S.2.2 3 (24 * a2 + j))) (hpu : puR S st) (hpb : puB st na nc) (hij : i0 ≤ na ∧ j0 ≤ nc) : Met l yX4_run (ws_ yX4_run cX4_run 6 (some FieldType.int)) ({ frames := 1, cells := 0, slots := 0, locals := 24 }) (mP X mo ad S [.ref mo, .int (zI (a : Int)), .int (zI (i0 : Int)), .int (zI (a2 : Int)), .int (zI (j0 : Int))]) (mQi X mo ad (fun u T => u = zI (rn al na nc st i0 j0 : Nat) ∧ S = T)) 0 0 (mA mo ad) := by
  refine Met.m (by decide) (Nat.le_of_ble_eq_true rfl) ?_
  intro p e s m below meth c ls hx hb hr hts hown hlocks hml hG hl
  have hl : lv_has ls 6 [(0, .ref mo), (1, .int (zI (a : Int))), (2, .int (zI (i0 : Int))), (3, .int (zI (a2 : Int))), (4, .int (zI (j0 : Int)))] := hl
  refine lv_iconst (v := zI 0) hx hb dX4_run_0 (by decide +kernel) ?_
  refine lv_istore (lv' := [(5, .int (zI 0)), (0, .ref mo), (1, .int (zI (a : Int))), (2, .int (zI (i0 : Int))), (3, .int (zI (a2 : Int))), (4, .int (zI (j0 : Int)))]) hx hb dX4_run_1 hl (by decide) rfl (fun ls hl => ?_)
  refine g_loop (fun mz H locs ls => ∃ (k : Nat), (i0 + k ≤ na ∧ mz = na - (i0 + k) ∧ rn al na nc st i0 j0 = k + rn al na nc st (i0 + k) (j0 + k)) ∧ mW X mo ad S s H locs ∧ lv_has ls 6 [(0, .ref mo), (1, .int (zI (a : Int))), (2, .int (zI (i0 : Int))), (3, .int (zI (a2 : Int))), (4, .int (zI (j0 : Int))), (5, .int (zI (k : Int)))]) (na - (i0 + 0)) ⟨0, ⟨by omega, rfl, (Nat.zero_add _).symm⟩, hG, (lv_sub hl [1, 2, 3, 4, 5, 0] rfl)⟩ (fun mz ihA H locs ls hI => ?_)
  obtain ⟨k, ⟨hk, hmz, hrn⟩, hG, hl⟩ := hI
  refine lv_iload_n hx hb dX4_run_3 rfl (lv_at hl 2 rfl) ?_
  refine lv_iload hx hb dX4_run_4 (lv_at hl 5 rfl) ?_
  refine g_iadd hx hb dX4_run_6 ?_
  refine lv_aload_n hx hb dX4_run_7 rfl (lv_at hl 0 rfl) ?_
  refine m_get 2 (by decide) (v := .ref (ad 2)) rfl hx hb hts hown hG (hts _ q3298) dX4_run_8 ?_
  refine lv_iload_n hx hb dX4_run_11 rfl (lv_at hl 1 rfl) ?_
  refine m_iald 2 rfl rfl (by decide) a (v := (na : Int)) ⟨by omega, by show _ < 17; omega⟩ hn.1 hx hb hG dX4_run_12 ?_
  refine g_cge (tgt := 80) hx hb dX4_run_13 (by decide) (by omega) (fun h1 => ?_) (fun h1 => ?_)
  · refine lv_iload hx hb dX4_run_80 (lv_at hl 5 rfl) ?_
    exact m_iret hx hb hr hlocks hG (⟨by rw [hrn, rn_stop (by omega)]; exact congrArg zI (by omega), rfl⟩) ⟨Nat.le_of_ble_eq_true rfl, Nat.le_of_ble_eq_true rfl⟩ dX4_run_82
  · refine lv_iload hx hb dX4_run_16 (lv_at hl 4 rfl) ?_
    refine lv_iload hx hb dX4_run_18 (lv_at hl 5 rfl) ?_
    refine g_iadd hx hb dX4_run_20 ?_
    refine lv_aload_n hx hb dX4_run_21 rfl (lv_at hl 0 rfl) ?_
    refine m_get 2 (by decide) (v := .ref (ad 2)) rfl hx hb hts hown hG (hts _ q3298) dX4_run_22 ?_
    refine lv_iload_n hx hb dX4_run_25 rfl (lv_at hl 3 rfl) ?_
    refine m_iald 2 rfl rfl (by decide) a2 (v := (nc : Int)) ⟨by omega, by show _ < 17; omega⟩ hm.1 hx hb hG dX4_run_26 ?_
    refine g_cge (tgt := 80) hx hb dX4_run_27 (by decide) (by omega) (fun h2 => ?_) (fun h2 => ?_)
    · refine lv_iload hx hb dX4_run_80 (lv_at hl 5 rfl) ?_
      exact m_iret hx hb hr hlocks hG (⟨by rw [hrn, rn_stop (by omega)]; exact congrArg zI (by omega), rfl⟩) ⟨Nat.le_of_ble_eq_true rfl, Nat.le_of_ble_eq_true rfl⟩ dX4_run_82
    · refine lv_aload_n hx hb dX4_run_30 rfl (lv_at hl 0 rfl) ?_
      refine m_get 26 (by decide) (v := .ref (ad 26)) rfl hx hb hts hown hG (hts _ q3322) dX4_run_31 ?_
      refine lv_iload_n hx hb dX4_run_34 rfl (lv_at hl 2 rfl) ?_
      refine lv_iload hx hb dX4_run_35 (lv_at hl 5 rfl) ?_
      refine g_iadd hx hb dX4_run_37 ?_
      refine m_iald 26 rfl rfl (by decide) (i0 + k) (v := S.2.1 26 (i0 + k)) ⟨by omega, by show _ < 24; omega⟩ rfl hx hb hG dX4_run_38 ?_
      have g1 := hpu.b hpb hm.2 (x := i0 + k) (by omega)
      refine lv_iconst (v := zI (-1)) hx hb dX4_run_39 (by decide +kernel) ?_
      refine g_cne (tgt := 80) hx hb dX4_run_40 (by decide) (by omega) (fun h3 => ?_) (fun h3 => ?_)
      · refine lv_iload hx hb dX4_run_80 (lv_at hl 5 rfl) ?_
        exact m_iret hx hb hr hlocks hG (⟨by rw [hrn, rn_stop (by rintro ⟨-, -, q, -⟩; exact h3 (by rw [hpu.1 _ (by omega), q]; rfl))]; exact congrArg zI (by omega), rfl⟩) ⟨Nat.le_of_ble_eq_true rfl, Nat.le_of_ble_eq_true rfl⟩ dX4_run_82
      · have hno : st.1 (i0 + k) = none := oI_m1.mp (by rw [← hpu.1 _ (by omega)]; exact h3)
        refine lv_aload_n hx hb dX4_run_43 rfl (lv_at hl 0 rfl) ?_
        refine m_get 27 (by decide) (v := .ref (ad 27)) rfl hx hb hts hown hG (hts _ q3323) dX4_run_44 ?_
        refine lv_iload hx hb dX4_run_47 (lv_at hl 4 rfl) ?_
        refine lv_iload hx hb dX4_run_49 (lv_at hl 5 rfl) ?_
        refine g_iadd hx hb dX4_run_51 ?_
        refine m_zald (j0 + k) (v := S.2.1 27 (j0 + k)) ⟨by omega, by omega⟩ rfl hx hb hG dX4_run_52 ?_
        have g2 : -2147483648 ≤ S.2.1 27 (j0 + k) ∧ S.2.1 27 (j0 + k) < 2147483648 := by rw [hpu.2 _ (by omega)]; exact bI_R _
        refine g_ne (tgt := 80) hx hb dX4_run_53 (by decide) (by omega) (fun h4 => ?_) (fun h4 => ?_)
        · refine lv_iload hx hb dX4_run_80 (lv_at hl 5 rfl) ?_
          exact m_iret hx hb hr hlocks hG (⟨by rw [hrn, rn_stop (by rintro ⟨-, -, -, q, -⟩; exact h4 (by rw [hpu.2 _ (by omega), q]; rfl))]; exact congrArg zI (by omega), rfl⟩) ⟨Nat.le_of_ble_eq_true rfl, Nat.le_of_ble_eq_true rfl⟩ dX4_run_82
        · have huf : st.2 (j0 + k) = false := bI_0.mp (by rw [← hpu.2 _ (by omega)]; exact h4)
          refine lv_aload_n hx hb dX4_run_56 rfl (lv_at hl 0 rfl) ?_
          refine lv_iload_n hx hb dX4_run_57 rfl (lv_at hl 1 rfl) ?_
          refine lv_iload_n hx hb dX4_run_58 rfl (lv_at hl 2 rfl) ?_
          refine lv_iload hx hb dX4_run_59 (lv_at hl 5 rfl) ?_
          refine g_iadd hx hb dX4_run_61 ?_
          refine lv_iload_n hx hb dX4_run_62 rfl (lv_at hl 3 rfl) ?_
          refine lv_iload hx hb dX4_run_63 (lv_at hl 4 rfl) ?_
          refine lv_iload hx hb dX4_run_65 (lv_at hl 5 rfl) ?_
          refine g_iadd hx hb dX4_run_67 ?_
          refine m_ci (va_runV (As := [.int (zI (a : Int)), .int (zI ((i0 : Int) + (k : Int))), .int (zI (a2 : Int)), .int (zI ((j0 : Int) + (k : Int)))]) (rest := []) ⟨hx, hb, hml, hown, hts⟩ (metX4_isAlike (by omega)) (cwV 4 hts (lw_V q3509 q3511 qs55 q102 q3512) rfl rfl rfl (by decide +kernel) ⟨Nat.le_of_ble_eq_true rfl, Nat.le_of_ble_eq_true rfl⟩) (m_preV hG) rfl rfl hl.1 rfl (lv_room (Nat.le_of_ble_eq_true rfl)) dX4_run_68 ⟨Nat.le_of_ble_eq_true rfl, Nat.le_of_ble_eq_true rfl⟩) hG (fun r_1 S_2 H locs hp hG => ?_)
          obtain ⟨b5, rfl, hb5, rfl⟩ := hp
          have hG : mW X mo ad S s H locs := hG
          have ha5 : (b5 = 1 ∧ al (i0 + k) (j0 + k) = true) ∨ (b5 = 0 ∧ ¬ al (i0 + k) (j0 + k) = true) := hb5.elim (fun q => Or.inl ⟨q.1, (hal _ _ (by omega) (by omega)).mpr q.2⟩) (fun q => Or.inr ⟨q.1, fun z => q.2 ((hal _ _ (by omega) (by omega)).mp z)⟩)
          refine g_eq (tgt := 80) hx hb dX4_run_71 (by decide) (by omega) (fun h5 => ?_) (fun h5 => ?_)
          · refine lv_iload hx hb dX4_run_80 (lv_at hl 5 rfl) ?_
            exact m_iret hx hb hr hlocks hG (⟨by rw [hrn, rn_stop (by rintro ⟨-, -, -, -, q⟩; exact ha5.elim (fun z => absurd z.1 (by omega)) (fun z => z.2 q))]; exact congrArg zI (by omega), rfl⟩) ⟨Nat.le_of_ble_eq_true rfl, Nat.le_of_ble_eq_true rfl⟩ dX4_run_82
          · refine lv_iinc (v := zI ((k : Int) + 1 : Int)) (lv' := [(5, .int (zI ((k : Int) + 1 : Int))), (0, .ref mo), (1, .int (zI (a : Int))), (2, .int (zI (i0 : Int))), (3, .int (zI (a2 : Int))), (4, .int (zI (j0 : Int)))]) hx hb dX4_run_74 hl (k := 5) rfl ((zI_add _ _).trans (congrArg zI (by omega))) (by decide) rfl (fun ls hl => ?_)
            refine lv_goto (tgt := 3) hx hb dX4_run_77 (by decide) ?_
            exact ihA (na - (i0 + (k + 1))) (by omega) H locs ls ⟨(k + 1), ⟨by omega, rfl, by rw [hrn, rn_step (by omega) (by omega) hno huf (ha5.elim (fun q => q.2) (fun q => absurd q.1 (by omega)))]; exact (Nat.add_assoc k 1 _).symm⟩, hG, (lv_sub hl [1, 2, 3, 4, 5, 0] rfl)⟩

set_option maxHeartbeats 4000000 in
theorem metX4_moves {l : Launch} {X : gX} {mo : Nat} {ad : Nat → Nat} {S : mS} {a a2 na nc r : Nat} {st : PU} {al : Nat → Nat → Bool} (hac : a < 17 ∧ a2 < 17) (hn : S.2.1 2 a = (na : Nat) ∧ na ≤ 24) (hm : S.2.1 2 a2 = (nc : Nat) ∧ nc ≤ 24) (hal : ∀ i j, i < na → j < nc → (al i j = true ↔ S.2.2 3 (24 * a + i) = S.2.2 3 (24 * a2 + j))) (hpu : puR S st) (hpb : puB st na nc) (hrun : S.2.1 7 0 = (r : Nat) ∧ 1 ≤ r ∧ r ≤ 9) : Met l yX4_moves (ws_ yX4_moves cX4_moves 9 (some FieldType.boolean)) ({ frames := 2, cells := 0, slots := 0, locals := 49 }) (mP X mo ad S [.ref mo, .int (zI (a : Int)), .int (zI (a2 : Int))]) (mQi X mo ad (fun u T => (u = zI 0 ∧ (bsI al na nc st na (0, 0, 0)).1 < r ∧ S = T) ∨ (u = zI 1 ∧ r ≤ (bsI al na nc st na (0, 0, 0)).1 ∧ mReal S T ∧ puR T (mvUse st (bsI al na nc st na (0, 0, 0)).2.1 (bsI al na nc st na (0, 0, 0)).2.2 (bsI al na nc st na (0, 0, 0)).1) ∧ T.1 29 = S.1 29 + ((bsI al na nc st na (0, 0, 0)).1 : Nat) ∧ T.1 28 = S.1 28))) 0 0 (mA mo ad) := by
  refine Met.m (by decide) (Nat.le_of_ble_eq_true rfl) ?_
  intro p e s m below meth c ls hx hb hr hts hown hlocks hml hG hl
  have hl : lv_has ls 9 [(0, .ref mo), (1, .int (zI (a : Int))), (2, .int (zI (a2 : Int)))] := hl
  refine lv_iconst (v := zI 0) hx hb dX4_moves_0 (by decide +kernel) ?_
  refine lv_istore_n (lv' := [(3, .int (zI 0)), (0, .ref mo), (1, .int (zI (a : Int))), (2, .int (zI (a2 : Int)))]) hx hb dX4_moves_1 rfl hl (by decide) rfl (fun ls hl => ?_)
  refine lv_iconst (v := zI 0) hx hb dX4_moves_2 (by decide +kernel) ?_
  refine lv_istore (lv' := [(4, .int (zI 0)), (3, .int (zI 0)), (0, .ref mo), (1, .int (zI (a : Int))), (2, .int (zI (a2 : Int)))]) hx hb dX4_moves_3 hl (by decide) rfl (fun ls hl => ?_)
  refine lv_iconst (v := zI 0) hx hb dX4_moves_5 (by decide +kernel) ?_
  refine lv_istore (lv' := [(5, .int (zI 0)), (4, .int (zI 0)), (3, .int (zI 0)), (0, .ref mo), (1, .int (zI (a : Int))), (2, .int (zI (a2 : Int)))]) hx hb dX4_moves_6 hl (by decide) rfl (fun ls hl => ?_)
  refine lv_iconst (v := zI 0) hx hb dX4_moves_8 (by decide +kernel) ?_
  refine lv_istore (lv' := [(6, .int (zI 0)), (5, .int (zI 0)), (4, .int (zI 0)), (3, .int (zI 0)), (0, .ref mo), (1, .int (zI (a : Int))), (2, .int (zI (a2 : Int)))]) hx hb dX4_moves_9 hl (by decide) rfl (fun ls hl => ?_)
  refine g_loop (fun mz H locs ls => ∃ (i : Nat), (i ≤ na ∧ mz = na - i) ∧ mW X mo ad S s H locs ∧ lv_has ls 9 [(0, .ref mo), (1, .int (zI (a : Int))), (2, .int (zI (a2 : Int))), (3, .int (zI ((bsI al na nc st i (0, 0, 0)).1 : Int))), (4, .int (zI ((bsI al na nc st i (0, 0, 0)).2.1 : Int))), (5, .int (zI ((bsI al na nc st i (0, 0, 0)).2.2 : Int))), (6, .int (zI (i : Int)))]) (na - 0) ⟨0, ⟨by omega, rfl⟩, hG, (lv_sub hl [4, 5, 6, 3, 2, 1, 0] rfl)⟩ (fun mz ihI H locs ls hI => ?_)
  obtain ⟨i, ⟨hi, hmi⟩, hG, hl⟩ := hI
  refine lv_iload hx hb dX4_moves_11 (lv_at hl 6 rfl) ?_
  refine lv_aload_n hx hb dX4_moves_13 rfl (lv_at hl 0 rfl) ?_
  refine m_get 2 (by decide) (v := .ref (ad 2)) rfl hx hb hts hown hG (hts _ q3298) dX4_moves_14 ?_
  refine lv_iload_n hx hb dX4_moves_17 rfl (lv_at hl 1 rfl) ?_
  refine m_iald 2 rfl rfl (by decide) a (v := (na : Int)) ⟨by omega, by show _ < 17; omega⟩ hn.1 hx hb hG dX4_moves_18 ?_
  refine g_cge (tgt := 80) hx hb dX4_moves_19 (by decide) (by omega) (fun h1 => ?_) (fun h1 => ?_)
  · have hs_1 : na = i := by omega
    subst hs_1
    have hB := @bsI_in al na nc st na
    refine lv_iload_n hx hb dX4_moves_80 rfl (lv_at hl 3 rfl) ?_
    refine lv_aload_n hx hb dX4_moves_81 rfl (lv_at hl 0 rfl) ?_
    refine m_get 7 (by decide) (v := .ref (ad 7)) rfl hx hb hts hown hG (hts _ q3303) dX4_moves_82 ?_
    refine lv_iconst (v := zI 0) hx hb dX4_moves_85 (by decide +kernel) ?_
    refine m_iald 7 rfl rfl (by decide) 0 (v := (r : Int)) ⟨by omega, by show _ < 3; omega⟩ hrun.1 hx hb hG dX4_moves_86 ?_
    refine g_cge (tgt := 92) hx hb dX4_moves_87 (by decide) (by omega) (fun h3 => ?_) (fun h3 => ?_)
    · refine lv_iconst (v := zI 0) hx hb dX4_moves_92 (by decide +kernel) ?_
      refine lv_istore (lv' := [(6, .int (zI 0)), (0, .ref mo), (1, .int (zI (a : Int))), (2, .int (zI (a2 : Int))), (3, .int (zI ((bsI al na nc st na (0, 0, 0)).1 : Int))), (4, .int (zI ((bsI al na nc st na (0, 0, 0)).2.1 : Int))), (5, .int (zI ((bsI al na nc st na (0, 0, 0)).2.2 : Int)))]) hx hb dX4_moves_93 hl (by decide) rfl (fun ls hl => ?_)
      refine g_loop (fun mz H locs ls => ∃ (k : Nat) (T : mS), (k ≤ (bsI al na nc st na (0, 0, 0)).1 ∧ mz = (bsI al na nc st na (0, 0, 0)).1 - k ∧ mReal S T ∧ puR T (mvUse st (bsI al na nc st na (0, 0, 0)).2.1 (bsI al na nc st na (0, 0, 0)).2.2 k) ∧ T.1 29 = S.1 29 ∧ T.1 28 = S.1 28) ∧ mW X mo ad T s H locs ∧ lv_has ls 9 [(0, .ref mo), (3, .int (zI ((bsI al na nc st na (0, 0, 0)).1 : Int))), (4, .int (zI ((bsI al na nc st na (0, 0, 0)).2.1 : Int))), (5, .int (zI ((bsI al na nc st na (0, 0, 0)).2.2 : Int))), (6, .int (zI (k : Int)))]) ((bsI al na nc st na (0, 0, 0)).1 - 0) ⟨0, S, ⟨Nat.zero_le _, rfl, mReal.rf, hpu, rfl, rfl⟩, hG, (lv_sub hl [1, 4, 5, 6, 0] rfl)⟩ (fun mz ihK H locs ls hI => ?_)
      obtain ⟨k, T, ⟨hk, hmk, hre, hpk, h29, h28⟩, hG, hl⟩ := hI
      refine lv_iload hx hb dX4_moves_95 (lv_at hl 4 rfl) ?_
      refine lv_iload_n hx hb dX4_moves_97 rfl (lv_at hl 1 rfl) ?_
      refine g_cge (tgt := 133) hx hb dX4_moves_98 (by decide) (by omega) (fun h4 => ?_) (fun h4 => ?_)
      · refine lv_aload_n hx hb dX4_moves_133 rfl (lv_at hl 0 rfl) ?_
        refine lv_dup hx hb dX4_moves_134 rfl ?_
        refine m_get 29 (by decide) (v := .int (zI (T.1 29))) rfl hx hb hts hown hG (hts _ q3325) dX4_moves_135 ?_
        refine lv_iload_n hx hb dX4_moves_138 rfl (lv_at hl 1 rfl) ?_
        refine g_iadd hx hb dX4_moves_139 ?_
        refine m_put 29 (by decide) rfl rfl (tyX4_ok 29 (by decide)) rfl rfl hx hb hts hown hG (hts _ q3325) dX4_moves_140 (fun H locs (hG : mW X mo ad (sI T 29 (T.1 29 + ((bsI al na nc st na (0, 0, 0)).1 : Int))) s H locs) => ?_)
        refine lv_iconst (v := zI 1) hx hb dX4_moves_143 (by decide +kernel) ?_
        exact m_zret hx hb hr hlocks rfl hG (Or.inr ⟨rfl, by omega, hre.I (by decide) _, (by have q : k = (bsI al na nc st na (0, 0, 0)).1 := (by omega); rw [← q]; exact hpk.I), by rw [sI_s, h29], (sI_n (by decide)).trans h28⟩) ⟨Nat.le_of_ble_eq_true rfl, Nat.le_of_ble_eq_true rfl⟩ dX4_moves_144
      · refine lv_aload_n hx hb dX4_moves_101 rfl (lv_at hl 0 rfl) ?_
        refine m_get 26 (by decide) (v := .ref (ad 26)) rfl hx hb hts hown hG (hts _ q3322) dX4_moves_102 ?_
        refine lv_iload hx hb dX4_moves_105 (lv_at hl 2 rfl) ?_
        refine lv_iload hx hb dX4_moves_107 (lv_at hl 4 rfl) ?_
        refine g_iadd hx hb dX4_moves_109 ?_
        refine lv_iload hx hb dX4_moves_110 (lv_at hl 3 rfl) ?_
        refine lv_iload hx hb dX4_moves_112 (lv_at hl 4 rfl) ?_
        refine g_iadd hx hb dX4_moves_114 ?_
        refine m_iast 26 rfl rfl (by decide) ((bsI al na nc st na (0, 0, 0)).2.1 + k) ⟨by omega, by show _ < 24; omega⟩ hx hb hG dX4_moves_115 (fun H locs (hG : mW X mo ad (sA T 26 ((bsI al na nc st na (0, 0, 0)).2.1 + k) (((bsI al na nc st na (0, 0, 0)).2.2 : Int) + (k : Int))) s H locs) => ?_)
        refine lv_aload_n hx hb dX4_moves_116 rfl (lv_at hl 0 rfl) ?_
        refine m_get 27 (by decide) (v := .ref (ad 27)) rfl hx hb hts hown hG (hts _ q3323) dX4_moves_117 ?_
        refine lv_iload hx hb dX4_moves_120 (lv_at hl 3 rfl) ?_
        refine lv_iload hx hb dX4_moves_122 (lv_at hl 4 rfl) ?_
        refine g_iadd hx hb dX4_moves_124 ?_
        refine lv_iconst (v := zI 1) hx hb dX4_moves_125 (by decide +kernel) ?_
        refine m_zast ((bsI al na nc st na (0, 0, 0)).2.2 + k) ⟨by omega, by omega⟩ (by decide +kernel) hx hb hG dX4_moves_126 (fun H locs (hG : mW X mo ad (sA (sA T 26 ((bsI al na nc st na (0, 0, 0)).2.1 + k) (((bsI al na nc st na (0, 0, 0)).2.2 : Int) + (k : Int))) 27 ((bsI al na nc st na (0, 0, 0)).2.2 + k) 1) s H locs) => ?_)
        refine lv_iinc (v := zI ((k : Int) + 1 : Int)) (lv' := [(6, .int (zI ((k : Int) + 1 : Int))), (0, .ref mo), (3, .int (zI ((bsI al na nc st na (0, 0, 0)).1 : Int))), (4, .int (zI ((bsI al na nc st na (0, 0, 0)).2.1 : Int))), (5, .int (zI ((bsI al na nc st na (0, 0, 0)).2.2 : Int)))]) hx hb dX4_moves_127 hl (k := 4) rfl ((zI_add _ _).trans (congrArg zI (by omega))) (by decide) rfl (fun ls hl => ?_)
        refine lv_goto (tgt := 95) hx hb dX4_moves_130 (by decide) ?_
        exact ihK ((bsI al na nc st na (0, 0, 0)).1 - (k + 1)) (by omega) H locs ls ⟨(k + 1), (sA (sA T 26 ((bsI al na nc st na (0, 0, 0)).2.1 + k) (((bsI al na nc st na (0, 0, 0)).2.2 : Int) + (k : Int))) 27 ((bsI al na nc st na (0, 0, 0)).2.2 + k) 1), ⟨by omega, by omega, (hre.A (by decide) _ _).A (by decide) _ _, by have q := hpk.use (x := (bsI al na nc st na (0, 0, 0)).2.1 + k) (y := (bsI al na nc st na (0, 0, 0)).2.2 + k); rw [Int.natCast_add] at q; exact q, h29, h28⟩, hG, (lv_sub hl [1, 2, 3, 4, 0] rfl)⟩
    · refine lv_iconst (v := zI 0) hx hb dX4_moves_90 (by decide +kernel) ?_
      exact m_zret hx hb hr hlocks rfl hG (Or.inl ⟨rfl, by omega, rfl⟩) ⟨Nat.le_of_ble_eq_true rfl, Nat.le_of_ble_eq_true rfl⟩ dX4_moves_91
  · refine lv_iconst (v := zI 0) hx hb dX4_moves_22 (by decide +kernel) ?_
    refine lv_istore (lv' := [(7, .int (zI 0)), (0, .ref mo), (1, .int (zI (a : Int))), (2, .int (zI (a2 : Int))), (3, .int (zI ((bsI al na nc st i (0, 0, 0)).1 : Int))), (4, .int (zI ((bsI al na nc st i (0, 0, 0)).2.1 : Int))), (5, .int (zI ((bsI al na nc st i (0, 0, 0)).2.2 : Int))), (6, .int (zI (i : Int)))]) hx hb dX4_moves_23 hl (by decide) rfl (fun ls hl => ?_)
    refine g_loop (fun mz H locs ls => ∃ (j : Nat), (j ≤ nc ∧ mz = nc - j) ∧ mW X mo ad S s H locs ∧ lv_has ls 9 [(0, .ref mo), (1, .int (zI (a : Int))), (2, .int (zI (a2 : Int))), (3, .int (zI ((bsJ al na nc st i j (bsI al na nc st i (0, 0, 0))).1 : Int))), (4, .int (zI ((bsJ al na nc st i j (bsI al na nc st i (0, 0, 0))).2.1 : Int))), (5, .int (zI ((bsJ al na nc st i j (bsI al na nc st i (0, 0, 0))).2.2 : Int))), (6, .int (zI (i : Int))), (7, .int (zI (j : Int)))]) (nc - 0) ⟨0, ⟨by omega, rfl⟩, hG, (lv_sub hl [1, 2, 3, 4, 5, 6, 7, 0] rfl)⟩ (fun mz ihJ H locs ls hI => ?_)
    obtain ⟨j, ⟨hj, hmj⟩, hG, hl⟩ := hI
    refine lv_iload hx hb dX4_moves_25 (lv_at hl 7 rfl) ?_
    refine lv_aload_n hx hb dX4_moves_27 rfl (lv_at hl 0 rfl) ?_
    refine m_get 2 (by decide) (v := .ref (ad 2)) rfl hx hb hts hown hG (hts _ q3298) dX4_moves_28 ?_
    refine lv_iload_n hx hb dX4_moves_31 rfl (lv_at hl 2 rfl) ?_
    refine m_iald 2 rfl rfl (by decide) a2 (v := (nc : Int)) ⟨by omega, by show _ < 17; omega⟩ hm.1 hx hb hG dX4_moves_32 ?_
    refine g_cge (tgt := 74) hx hb dX4_moves_33 (by decide) (by omega) (fun h2 => ?_) (fun h2 => ?_)
    · have hs_2 : nc = j := by omega
      subst hs_2
      refine lv_iinc (v := zI ((i : Int) + 1 : Int)) (lv' := [(6, .int (zI ((i : Int) + 1 : Int))), (0, .ref mo), (1, .int (zI (a : Int))), (2, .int (zI (a2 : Int))), (3, .int (zI ((bsJ al na nc st i nc (bsI al na nc st i (0, 0, 0))).1 : Int))), (4, .int (zI ((bsJ al na nc st i nc (bsI al na nc st i (0, 0, 0))).2.1 : Int))), (5, .int (zI ((bsJ al na nc st i nc (bsI al na nc st i (0, 0, 0))).2.2 : Int))), (7, .int (zI (nc : Int)))]) hx hb dX4_moves_74 hl (k := 6) rfl ((zI_add _ _).trans (congrArg zI (by omega))) (by decide) rfl (fun ls hl => ?_)
      refine lv_goto (tgt := 11) hx hb dX4_moves_77 (by decide) ?_
      exact ihI (na - (i + 1)) (by omega) H locs ls ⟨(i + 1), ⟨by omega, by omega⟩, hG, (lv_sub hl [1, 2, 3, 4, 5, 6, 0] rfl)⟩
    · refine lv_aload_n hx hb dX4_moves_36 rfl (lv_at hl 0 rfl) ?_
      refine lv_iload_n hx hb dX4_moves_37 rfl (lv_at hl 1 rfl) ?_
      refine lv_iload hx hb dX4_moves_38 (lv_at hl 6 rfl) ?_
      refine lv_iload_n hx hb dX4_moves_40 rfl (lv_at hl 2 rfl) ?_
      refine lv_iload hx hb dX4_moves_41 (lv_at hl 7 rfl) ?_
      refine m_ci (va_runV (As := [.int (zI (a : Int)), .int (zI (i : Int)), .int (zI (a2 : Int)), .int (zI (j : Int))]) (rest := []) ⟨hx, hb, hml, hown, hts⟩ (metX4_run hac hn hm hal hpu hpb ⟨by omega, by omega⟩) (cwV 4 hts (lw_V q3518 q3520 qs57 q102 q3521) rfl rfl rfl (by decide +kernel) ⟨Nat.le_of_ble_eq_true rfl, Nat.le_of_ble_eq_true rfl⟩) (m_preV hG) rfl rfl hl.1 rfl (lv_room (Nat.le_of_ble_eq_true rfl)) dX4_moves_43 ⟨Nat.le_of_ble_eq_true rfl, Nat.le_of_ble_eq_true rfl⟩) hG (fun r_3 S_4 H locs hp hG => ?_)
      obtain ⟨rfl, rfl⟩ := hp
      have hG : mW X mo ad S s H locs := hG
      have g1 := @rn_le al na nc i j st
      have g3 := bsJ_le (al := al) (n := na) (m := nc) (s := st) (i := i) j
      refine lv_istore (lv' := [(8, .int (zI (rn al na nc st i j : Nat))), (0, .ref mo), (1, .int (zI (a : Int))), (2, .int (zI (a2 : Int))), (3, .int (zI ((bsJ al na nc st i j (bsI al na nc st i (0, 0, 0))).1 : Int))), (4, .int (zI ((bsJ al na nc st i j (bsI al na nc st i (0, 0, 0))).2.1 : Int))), (5, .int (zI ((bsJ al na nc st i j (bsI al na nc st i (0, 0, 0))).2.2 : Int))), (6, .int (zI (i : Int))), (7, .int (zI (j : Int)))]) hx hb dX4_moves_46 hl (by decide) rfl (fun ls hl => ?_)
      refine lv_iload hx hb dX4_moves_48 (lv_at hl 0 rfl) ?_
      refine lv_iload_n hx hb dX4_moves_50 rfl (lv_at hl 4 rfl) ?_
      refine g_cgt (tgt := 57) hx hb dX4_moves_51 (by decide) (by omega) (fun h7 => ?_) (fun h7 => ?_)
      · refine lv_iload hx hb dX4_moves_57 (lv_at hl 0 rfl) ?_
        refine lv_istore_n (lv' := [(3, .int (zI (rn al na nc st i j : Nat))), (8, .int (zI (rn al na nc st i j : Nat))), (0, .ref mo), (1, .int (zI (a : Int))), (2, .int (zI (a2 : Int))), (4, .int (zI ((bsJ al na nc st i j (bsI al na nc st i (0, 0, 0))).2.1 : Int))), (5, .int (zI ((bsJ al na nc st i j (bsI al na nc st i (0, 0, 0))).2.2 : Int))), (6, .int (zI (i : Int))), (7, .int (zI (j : Int)))]) hx hb dX4_moves_59 rfl hl (by decide) rfl (fun ls hl => ?_)
        refine lv_iload hx hb dX4_moves_60 (lv_at hl 7 rfl) ?_
        refine lv_istore (lv' := [(4, .int (zI (i : Int))), (3, .int (zI (rn al na nc st i j : Nat))), (8, .int (zI (rn al na nc st i j : Nat))), (0, .ref mo), (1, .int (zI (a : Int))), (2, .int (zI (a2 : Int))), (5, .int (zI ((bsJ al na nc st i j (bsI al na nc st i (0, 0, 0))).2.2 : Int))), (6, .int (zI (i : Int))), (7, .int (zI (j : Int)))]) hx hb dX4_moves_62 hl (by decide) rfl (fun ls hl => ?_)
        refine lv_iload hx hb dX4_moves_64 (lv_at hl 8 rfl) ?_
        refine lv_istore (lv' := [(5, .int (zI (j : Int))), (4, .int (zI (i : Int))), (3, .int (zI (rn al na nc st i j : Nat))), (8, .int (zI (rn al na nc st i j : Nat))), (0, .ref mo), (1, .int (zI (a : Int))), (2, .int (zI (a2 : Int))), (6, .int (zI (i : Int))), (7, .int (zI (j : Int)))]) hx hb dX4_moves_66 hl (by decide) rfl (fun ls hl => ?_)
        have e9 : bsJ al na nc st i (j + 1) (bsI al na nc st i (0, 0, 0)) = (rn al na nc st i j, i, j) := by rw [bsJ_S, if_pos (by omega)]
        refine lv_iinc (v := zI ((j : Int) + 1 : Int)) (lv' := [(7, .int (zI ((j : Int) + 1 : Int))), (5, .int (zI (j : Int))), (4, .int (zI (i : Int))), (3, .int (zI (rn al na nc st i j : Nat))), (8, .int (zI (rn al na nc st i j : Nat))), (0, .ref mo), (1, .int (zI (a : Int))), (2, .int (zI (a2 : Int))), (6, .int (zI (i : Int)))]) hx hb dX4_moves_68 hl (k := 8) rfl ((zI_add _ _).trans (congrArg zI (by omega))) (by decide) rfl (fun ls hl => ?_)
        refine lv_goto (tgt := 25) hx hb dX4_moves_71 (by decide) ?_
        have hl : lv_has ls 9 [(7, .int (zI ((j : Int) + 1 : Int))), (5, .int (zI ((bsJ al na nc st i (j + 1) (bsI al na nc st i (0, 0, 0))).2.2 : Int))), (4, .int (zI ((bsJ al na nc st i (j + 1) (bsI al na nc st i (0, 0, 0))).2.1 : Int))), (3, .int (zI ((bsJ al na nc st i (j + 1) (bsI al na nc st i (0, 0, 0))).1 : Int))), (8, .int (zI (rn al na nc st i j : Nat))), (0, .ref mo), (1, .int (zI (a : Int))), (2, .int (zI (a2 : Int))), (6, .int (zI (i : Int)))] := by rw [e9]; exact hl
        exact ihJ (nc - (j + 1)) (by omega) H locs ls ⟨(j + 1), ⟨by omega, by omega⟩, hG, (lv_sub hl [5, 6, 7, 3, 2, 1, 8, 0] rfl)⟩
      · refine lv_goto (tgt := 68) hx hb dX4_moves_54 (by decide) ?_
        have e9 : bsJ al na nc st i (j + 1) (bsI al na nc st i (0, 0, 0)) = bsJ al na nc st i j (bsI al na nc st i (0, 0, 0)) := by rw [bsJ_S, if_neg (by omega)]
        refine lv_iinc (v := zI ((j : Int) + 1 : Int)) (lv' := [(7, .int (zI ((j : Int) + 1 : Int))), (8, .int (zI (rn al na nc st i j : Nat))), (0, .ref mo), (1, .int (zI (a : Int))), (2, .int (zI (a2 : Int))), (3, .int (zI ((bsJ al na nc st i j (bsI al na nc st i (0, 0, 0))).1 : Int))), (4, .int (zI ((bsJ al na nc st i j (bsI al na nc st i (0, 0, 0))).2.1 : Int))), (5, .int (zI ((bsJ al na nc st i j (bsI al na nc st i (0, 0, 0))).2.2 : Int))), (6, .int (zI (i : Int)))]) hx hb dX4_moves_68 hl (k := 8) rfl ((zI_add _ _).trans (congrArg zI (by omega))) (by decide) rfl (fun ls hl => ?_)
        refine lv_goto (tgt := 25) hx hb dX4_moves_71 (by decide) ?_
        have hl : lv_has ls 9 [(7, .int (zI ((j : Int) + 1 : Int))), (8, .int (zI (rn al na nc st i j : Nat))), (0, .ref mo), (1, .int (zI (a : Int))), (2, .int (zI (a2 : Int))), (3, .int (zI ((bsJ al na nc st i (j + 1) (bsI al na nc st i (0, 0, 0))).1 : Int))), (4, .int (zI ((bsJ al na nc st i (j + 1) (bsI al na nc st i (0, 0, 0))).2.1 : Int))), (5, .int (zI ((bsJ al na nc st i (j + 1) (bsI al na nc st i (0, 0, 0))).2.2 : Int))), (6, .int (zI (i : Int)))] := by rw [e9]; exact hl
        exact ihJ (nc - (j + 1)) (by omega) H locs ls ⟨(j + 1), ⟨by omega, by omega⟩, hG, (lv_sub hl [2, 3, 4, 5, 6, 7, 8, 0] rfl)⟩

