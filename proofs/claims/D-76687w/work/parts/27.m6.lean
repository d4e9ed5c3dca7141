set_option maxRecDepth 100000
theorem mvF_no {al : Nat → Nat → Bool} {n m r f : Nat} {st : PU} {c : Nat} (h : (bsI al n m st n (0, 0, 0)).1 < r) : mvF al n m r f st c = (st, c) := by
  cases f with
  | zero => rfl
  | succ f => rw [mvF, if_neg (by omega)]
theorem mvF_yes {al : Nat → Nat → Bool} {n m r f : Nat} {st : PU} {c : Nat} (h : r ≤ (bsI al n m st n (0, 0, 0)).1) : mvF al n m r (f + 1) st c = mvF al n m r f (mvUse st (bsI al n m st n (0, 0, 0)).2.1 (bsI al n m st n (0, 0, 0)).2.2 (bsI al n m st n (0, 0, 0)).1) (c + (bsI al n m st n (0, 0, 0)).1) := by
  rw [mvF, if_pos h]
theorem cnt_mv {al : Nat → Nat → Bool} {n m r : Nat} {st : PU} (h : r ≤ (bsI al n m st n (0, 0, 0)).1) (hr : 1 ≤ r) : cnt (mvUse st (bsI al n m st n (0, 0, 0)).2.1 (bsI al n m st n (0, 0, 0)).2.2 (bsI al n m st n (0, 0, 0)).1).1 n = cnt st.1 n + (bsI al n m st n (0, 0, 0)).1 := by
  rcases bsI_in (al := al) (n := n) (m := m) (s := st) n with q | q
  · omega
  · exact cnt_mvUse q.1 (fun x hx => bsI_none hx)
theorem puB_mv {al : Nat → Nat → Bool} {n m : Nat} {st : PU} (h : puB st n m) : puB (mvUse st (bsI al n m st n (0, 0, 0)).2.1 (bsI al n m st n (0, 0, 0)).2.2 (bsI al n m st n (0, 0, 0)).1) n m := by
  rcases bsI_in (al := al) (n := n) (m := m) (s := st) n with q | q
  · rw [q]; exact h
  · exact mvUse_B h _ q.1 q.2
theorem mPlace_lt {ta tb : Tx} {r i x : Nat} (h : mPlace ta tb r i = some x) : i < ta.length ∧ x < tb.length := by
  have g : ∀ f st c, puB st ta.length tb.length → puB (mvF (alk ta tb) ta.length tb.length r f st c).1 ta.length tb.length := by
    intro f
    induction f with
    | zero => intro st c h; exact h
    | succ f ih =>
      intro st c h
      by_cases hr : r ≤ (bsI (alk ta tb) ta.length tb.length st ta.length (0, 0, 0)).1
      · rw [mvF_yes hr]; exact ih _ _ (puB_mv h)
      · rw [mvF_no (by omega)]; exact h
  exact g _ _ _ pr0_B i x h
/-- all but where lines come to -/
def mBut4 (S T : mS) : Prop := ∀ k, k < 25 → T.1 k = S.1 k ∧ (k ≠ 4 → T.2.1 k = S.2.1 k) ∧ T.2.2 k = S.2.2 k
theorem mReal.b4 {S T : mS} (h : mReal S T) : mBut4 S T := fun k hk => ⟨(h k hk).1, fun _ => (h k hk).2.1, (h k hk).2.2⟩
theorem mBut4.A {S T : mS} (h : mBut4 S T) (i : Nat) (v : Int) : mBut4 S (sA T 4 i v) := fun j hj => ⟨(h j hj).1, fun q => (sA_o q).trans ((h j hj).2.1 q), (h j hj).2.2⟩
theorem mBut4.tr {S T U : mS} (h : mBut4 S T) (k : mBut4 T U) : mBut4 S U := fun j hj => ⟨(k j hj).1.trans (h j hj).1, fun q => ((k j hj).2.1 q).trans ((h j hj).2.1 q), (k j hj).2.2.trans (h j hj).2.2⟩
theorem mRv.b4 {S T : mS} {w : aW} (h : mRv S w) (e : mBut4 S T) : mRv T w := h.cg ⟨(e 1 (by decide)).2.1 (by decide), (e 2 (by decide)).2.1 (by decide), (e 7 (by decide)).2.1 (by decide), (e 3 (by decide)).2.2⟩
set_option maxHeartbeats 4000000 in
theorem metX4_places {l : Launch} {X : gX} {mo : Nat} {ad : Nat → Nat} {S : mS} {a a2 na nc r : Nat} {al : Nat → Nat → Bool} (hac : a < 17 ∧ a2 < 17) (hn : S.2.1 2 a = (na : Nat) ∧ na ≤ 24) (hm : S.2.1 2 a2 = (nc : Nat) ∧ nc ≤ 24) (hal : ∀ i j, i < na → j < nc → (al i j = true ↔ S.2.2 3 (24 * a + i) = S.2.2 3 (24 * a2 + j))) (hrun : S.2.1 7 0 = (r : Nat) ∧ 1 ≤ r ∧ r ≤ 9) : Met l yX4_places (ws_ yX4_places cX4_places 4 none) ({ frames := 3, cells := 0, slots := 0, locals := 77 }) (mP X mo ad S [.ref mo, .int (zI (a : Int)), .int (zI (a2 : Int))]) (mQv X mo ad (fun T => mReal S T ∧ (∀ x, x < 24 → T.2.1 26 x = oI ((mvF al na nc r (na + 1) (pr0 al na nc) 0).1.1 x)) ∧ T.1 28 = (cnt (pr0 al na nc).1 na : Nat) ∧ T.1 29 = ((mvF al na nc r (na + 1) (pr0 al na nc) 0).2 : Nat))) 0 0 (mA mo ad) := by
  refine Met.m (by decide) (Nat.le_of_ble_eq_true rfl) ?_
  intro p e s m below meth c ls hx hb hr hts hown hlocks hml hG hl
  have hl : lv_has ls 4 [(0, .ref mo), (1, .int (zI (a : Int))), (2, .int (zI (a2 : Int)))] := hl
  refine lv_aload_n hx hb dX4_places_0 rfl (lv_at hl 0 rfl) ?_
  refine lv_iconst (v := zI 0) hx hb dX4_places_1 (by decide +kernel) ?_
  refine m_put 28 (by decide) rfl rfl (tyX4_ok 28 (by decide)) rfl rfl hx hb hts hown hG (hts _ q3324) dX4_places_2 (fun H locs (hG : mW X mo ad (sI S 28 0) s H locs) => ?_)
  refine lv_aload_n hx hb dX4_places_5 rfl (lv_at hl 0 rfl) ?_
  refine lv_iconst (v := zI 0) hx hb dX4_places_6 (by decide +kernel) ?_
  refine m_put 29 (by decide) rfl rfl (tyX4_ok 29 (by decide)) rfl rfl hx hb hts hown hG (hts _ q3325) dX4_places_7 (fun H locs (hG : mW X mo ad (sI (sI S 28 0) 29 0) s H locs) => ?_)
  refine lv_iconst (v := zI 0) hx hb dX4_places_10 (by decide +kernel) ?_
  refine lv_istore_n (lv' := [(3, .int (zI 0)), (0, .ref mo), (1, .int (zI (a : Int))), (2, .int (zI (a2 : Int)))]) hx hb dX4_places_11 rfl hl (by decide) rfl (fun ls hl => ?_)
  refine g_loop (fun mz H locs ls => ∃ (k : Nat) (T : mS), (k ≤ 24 ∧ mz = 24 - k ∧ mReal S T ∧ (∀ x, x < k → T.2.1 26 x = -1 ∧ T.2.1 27 x = 0) ∧ T.1 28 = 0 ∧ T.1 29 = 0) ∧ mW X mo ad T s H locs ∧ lv_has ls 4 [(0, .ref mo), (1, .int (zI (a : Int))), (2, .int (zI (a2 : Int))), (3, .int (zI (k : Int)))]) (24 - 0) ⟨0, (sI (sI S 28 0) 29 0), ⟨by omega, rfl, (mReal.rf.I (by decide) _).I (by decide) _, fun x hx => by omega, by rw [sI_n (by decide), sI_s], sI_s⟩, hG, (lv_sub hl [1, 2, 3, 0] rfl)⟩ (fun mz ihA H locs ls hI => ?_)
  obtain ⟨k, T, ⟨hk, hmz, hre, hpu, h28, h29⟩, hG, hl⟩ := hI
  refine lv_iload_n hx hb dX4_places_12 rfl (lv_at hl 3 rfl) ?_
  refine lv_bipush (v := zI 24) hx hb dX4_places_13 (by decide +kernel) ?_
  refine g_cge (tgt := 38) hx hb dX4_places_15 (by decide) (by omega) (fun h1 => ?_) (fun h1 => ?_)
  · refine lv_aload_n hx hb dX4_places_38 rfl (lv_at hl 0 rfl) ?_
    refine lv_iload_n hx hb dX4_places_39 rfl (lv_at hl 1 rfl) ?_
    refine lv_iload_n hx hb dX4_places_40 rfl (lv_at hl 2 rfl) ?_
    refine m_cv (va_runV (As := [.int (zI (a : Int)), .int (zI (a2 : Int))]) (rest := []) ⟨hx, hb, hml, hown, hts⟩ (metX4_pairs hac (by rw [(hre 2 (by decide)).2.1]; exact hn) (by rw [(hre 2 (by decide)).2.1]; exact hm) (fun i j h1 h2 => by rw [(hre 3 (by decide)).2.2]; exact hal i j h1 h2) (fun x hx => (hpu x (by omega)).1) (fun x hx => (hpu x (by omega)).2) h28) (cwV 2 hts (lw_V q3505 q3507 qs54 q102 q3508) rfl rfl rfl (by decide +kernel) ⟨Nat.le_of_ble_eq_true rfl, Nat.le_of_ble_eq_true rfl⟩) (m_preV hG) rfl rfl hl.1 rfl (lv_room (Nat.le_of_ble_eq_true rfl)) dX4_places_41 ⟨Nat.le_of_ble_eq_true rfl, Nat.le_of_ble_eq_true rfl⟩) hG (fun S_2 H locs hp hG => ?_)
    obtain ⟨hre2, hp1, hp2, h28b, h29b⟩ := hp
    have hG : mW X mo ad S_2 s H locs := hG
    have hre3 := hre.tr hre2
    refine lv_iconst (v := zI 1) hx hb dX4_places_44 (by decide +kernel) ?_
    refine lv_istore_n (lv' := [(3, .int (zI 1)), (0, .ref mo), (1, .int (zI (a : Int))), (2, .int (zI (a2 : Int)))]) hx hb dX4_places_45 rfl hl (by decide) rfl (fun ls hl => ?_)
    refine g_loop (fun mz H locs ls => ∃ (T : mS) (st : PU) (cc f : Nat) (g : Int), (mReal S T ∧ puR T st ∧ puB st na nc ∧ T.1 28 = (cnt (pr0 al na nc).1 na : Nat) ∧ T.1 29 = (cc : Nat) ∧ ((g = 1 ∧ mvF al na nc r f st cc = (mvF al na nc r (na + 1) (pr0 al na nc) 0) ∧ na + 1 ≤ f + cnt st.1 na ∧ mz = f + 1) ∨ (g = 0 ∧ (st, cc) = (mvF al na nc r (na + 1) (pr0 al na nc) 0) ∧ mz = 0))) ∧ mW X mo ad T s H locs ∧ lv_has ls 4 [(0, .ref mo), (1, .int (zI (a : Int))), (2, .int (zI (a2 : Int))), (3, .int (zI g))]) (na + 1 + 1) ⟨S_2, (pr0 al na nc), 0, (na + 1), 1, ⟨hre3, ⟨hp1, hp2⟩, pr0_B, h28b, h29b.trans h29, Or.inl ⟨rfl, rfl, by omega, rfl⟩⟩, hG, (lv_sub hl [1, 2, 3, 0] rfl)⟩ (fun mz ihB H locs ls hI => ?_)
    obtain ⟨T, st, cc, f, g, ⟨hre, hpu, hpb, hp28, hc, hgo⟩, hG, hl⟩ := hI
    refine lv_iload_n hx hb dX4_places_46 rfl (lv_at hl 3 rfl) ?_
    refine g_eq (tgt := 60) hx hb dX4_places_47 (by decide) (hgo.elim (fun q => by have := q.1; omega) (fun q => by have := q.1; omega)) (fun h3 => ?_) (fun h3 => ?_)
    · have hE : (st, cc) = (mvF al na nc r (na + 1) (pr0 al na nc) 0) := hgo.elim (fun q => absurd q.1 (by omega)) (fun q => q.2.1)
      exact m_vret hx hb hr hlocks hG (⟨hre, by rw [← hE]; exact hpu.1, hp28, by rw [← hE]; exact hc⟩) ⟨Nat.le_of_ble_eq_true rfl, Nat.le_of_ble_eq_true rfl⟩ dX4_places_60
    · obtain ⟨hg1, hmv, hcn, hmz⟩ : g = 1 ∧ mvF al na nc r f st cc = (mvF al na nc r (na + 1) (pr0 al na nc) 0) ∧ na + 1 ≤ f + cnt st.1 na ∧ mz = f + 1 := hgo.elim id (fun q => absurd q.1 (by omega))
      have hcl := cnt_le st.1 na
      obtain ⟨f1, rfl⟩ : ∃ n9, f = n9 + 1 := ⟨f - 1, by omega⟩
      refine lv_aload_n hx hb dX4_places_50 rfl (lv_at hl 0 rfl) ?_
      refine lv_iload_n hx hb dX4_places_51 rfl (lv_at hl 1 rfl) ?_
      refine lv_iload_n hx hb dX4_places_52 rfl (lv_at hl 2 rfl) ?_
      refine m_ci (va_runV (As := [.int (zI (a : Int)), .int (zI (a2 : Int))]) (rest := []) ⟨hx, hb, hml, hown, hts⟩ (metX4_moves hac (by rw [(hre 2 (by decide)).2.1]; exact hn) (by rw [(hre 2 (by decide)).2.1]; exact hm) (fun i j h1 h2 => by rw [(hre 3 (by decide)).2.2]; exact hal i j h1 h2) hpu hpb (r := r) (by rw [(hre 7 (by decide)).2.1]; exact hrun)) (cwV 2 hts (lw_V q3514 q3516 qs56 q102 q3517) rfl rfl rfl (by decide +kernel) ⟨Nat.le_of_ble_eq_true rfl, Nat.le_of_ble_eq_true rfl⟩) (m_preV hG) rfl rfl hl.1 rfl (lv_room (Nat.le_of_ble_eq_true rfl)) dX4_places_53 ⟨Nat.le_of_ble_eq_true rfl, Nat.le_of_ble_eq_true rfl⟩) hG (fun r_4 S_5 H locs hp hG => ?_)
      obtain hp := hp
      have hG : mW X mo ad S_5 s H locs := hG
      rcases hp with ⟨rfl, hlt, rfl⟩ | ⟨rfl, hle, hre9, hpu9, hc9, hp289⟩
      · refine lv_istore_n (lv' := [(3, .int (zI 0)), (0, .ref mo), (1, .int (zI (a : Int))), (2, .int (zI (a2 : Int)))]) hx hb dX4_places_56 rfl hl (by decide) rfl (fun ls hl => ?_)
        refine lv_goto (tgt := 46) hx hb dX4_places_57 (by decide) ?_
        exact ihB 0 (by omega) H locs ls ⟨T, st, cc, (f1 + 1), 0, ⟨hre, hpu, hpb, hp28, hc, Or.inr ⟨rfl, by rw [← hmv, mvF_no hlt], rfl⟩⟩, hG, (lv_sub hl [1, 2, 3, 0] rfl)⟩
      · refine lv_istore_n (lv' := [(3, .int (zI 1)), (0, .ref mo), (1, .int (zI (a : Int))), (2, .int (zI (a2 : Int)))]) hx hb dX4_places_56 rfl hl (by decide) rfl (fun ls hl => ?_)
        refine lv_goto (tgt := 46) hx hb dX4_places_57 (by decide) ?_
        exact ihB (f1 + 1) (by omega) H locs ls ⟨S_5, (mvUse st (bsI al na nc st na (0, 0, 0)).2.1 (bsI al na nc st na (0, 0, 0)).2.2 (bsI al na nc st na (0, 0, 0)).1), (cc + (bsI al na nc st na (0, 0, 0)).1), f1, 1, ⟨hre.tr hre9, hpu9, puB_mv hpb, hp289.trans hp28, by rw [hc9, hc, Int.natCast_add], Or.inl ⟨rfl, by rw [← hmv, mvF_yes hle], by rw [cnt_mv hle (by omega)]; omega, rfl⟩⟩, hG, (lv_sub hl [1, 2, 3, 0] rfl)⟩
  · refine lv_aload_n hx hb dX4_places_18 rfl (lv_at hl 0 rfl) ?_
    refine m_get 26 (by decide) (v := .ref (ad 26)) rfl hx hb hts hown hG (hts _ q3322) dX4_places_19 ?_
    refine lv_iload_n hx hb dX4_places_22 rfl (lv_at hl 3 rfl) ?_
    refine lv_iconst (v := zI (-1)) hx hb dX4_places_23 (by decide +kernel) ?_
    refine m_iast 26 rfl rfl (by decide) k ⟨by omega, by show _ < 24; omega⟩ hx hb hG dX4_places_24 (fun H locs (hG : mW X mo ad (sA T 26 k (-1)) s H locs) => ?_)
    refine lv_aload_n hx hb dX4_places_25 rfl (lv_at hl 0 rfl) ?_
    refine m_get 27 (by decide) (v := .ref (ad 27)) rfl hx hb hts hown hG (hts _ q3323) dX4_places_26 ?_
    refine lv_iload_n hx hb dX4_places_29 rfl (lv_at hl 3 rfl) ?_
    refine lv_iconst (v := zI 0) hx hb dX4_places_30 (by decide +kernel) ?_
    refine m_zast k ⟨by omega, by omega⟩ (by decide +kernel) hx hb hG dX4_places_31 (fun H locs (hG : mW X mo ad (sA (sA T 26 k (-1)) 27 k 0) s H locs) => ?_)
    refine lv_iinc (v := zI ((k : Int) + 1 : Int)) (lv' := [(3, .int (zI ((k : Int) + 1 : Int))), (0, .ref mo), (1, .int (zI (a : Int))), (2, .int (zI (a2 : Int)))]) hx hb dX4_places_32 hl (k := 3) rfl ((zI_add _ _).trans (congrArg zI (by omega))) (by decide) rfl (fun ls hl => ?_)
    refine lv_goto (tgt := 12) hx hb dX4_places_35 (by decide) ?_
    exact ihA (24 - (k + 1)) (by omega) H locs ls ⟨(k + 1), (sA (sA T 26 k (-1)) 27 k 0), ⟨by omega, by omega, (hre.A (by decide) _ _).A (by decide) _ _, fun x hx => by by_cases hxk : x = k; (subst hxk; exact ⟨by rw [sA_o (by decide : (26 : Nat) ≠ 27), sA_s], sA_s⟩); exact ⟨by rw [sA_o (by decide : (26 : Nat) ≠ 27), sA_n hxk]; exact (hpu x (by omega)).1, by rw [sA_n hxk, sA_o (by decide : (27 : Nat) ≠ 26)]; exact (hpu x (by omega)).2⟩, h28, h29⟩, hG, (lv_sub hl [1, 2, 3, 0] rfl)⟩

set_option maxHeartbeats 4000000 in
theorem metX4_learns {l : Launch} {X : gX} {mo : Nat} {ad : Nat → Nat} {S : mS} {w : aW} {r : Nat} (hR : mRv S w) (hK : wOK w) (hrn : r < wN w) : Met l yX4_learns (ws_ yX4_learns cX4_learns 3 none) ({ frames := 4, cells := 0, slots := 0, locals := 100 }) (mP X mo ad S [.ref mo, .int (zI (r : Int))]) (mQv X mo ad (fun T => mBut4 S T ∧ (∀ x, x < 24 * r ∨ 24 * r + 24 ≤ x → T.2.1 4 x = S.2.1 4 x) ∧ (wFo w r ≠ none → ∀ i, i < 24 → T.2.1 4 (24 * r + i) = oI (cmR w r i)))) 0 0 (mA mo ad) := by
  refine Met.m (by decide) (Nat.le_of_ble_eq_true rfl) ?_
  intro p e s m below meth c ls hx hb hr hts hown hlocks hml hG hl
  have hl : lv_has ls 3 [(0, .ref mo), (1, .int (zI (r : Int)))] := hl
  have hn := hK.n
  refine lv_aload_n hx hb dX4_learns_0 rfl (lv_at hl 0 rfl) ?_
  refine m_get 1 (by decide) (v := .ref (ad 1)) rfl hx hb hts hown hG (hts _ q3297) dX4_learns_1 ?_
  refine lv_iload_n hx hb dX4_learns_4 rfl (lv_at hl 1 rfl) ?_
  refine m_iald 1 rfl rfl (by decide) r (v := (oI (wFo w r))) ⟨by omega, by show _ < 16; omega⟩ (hR.fo hrn) hx hb hG dX4_learns_5 ?_
  have ho := oI_R (wFo w r) (fun x hx => by have := hK.fo r x hx; have := hK.n; omega)
  refine lv_iconst (v := zI (-1)) hx hb dX4_learns_6 (by decide +kernel) ?_
  refine g_cne (tgt := 11) hx hb dX4_learns_7 (by decide) (by omega) (fun h1 => ?_) (fun h1 => ?_)
  · obtain ⟨f, hf⟩ : ∃ f, wFo w r = some f := by cases hq : wFo w r with
      | none => exact absurd (oI_m1.mpr hq) h1
      | some f => exact ⟨f, rfl⟩
    have hfr := hK.fo r f hf
    refine lv_aload_n hx hb dX4_learns_11 rfl (lv_at hl 0 rfl) ?_
    refine lv_aload_n hx hb dX4_learns_12 rfl (lv_at hl 0 rfl) ?_
    refine m_get 1 (by decide) (v := .ref (ad 1)) rfl hx hb hts hown hG (hts _ q3297) dX4_learns_13 ?_
    refine lv_iload_n hx hb dX4_learns_16 rfl (lv_at hl 1 rfl) ?_
    refine m_iald 1 rfl rfl (by decide) r (v := (f : Int)) ⟨by omega, by show _ < 16; omega⟩ ((hR.fo hrn).trans (by rw [hf]; rfl)) hx hb hG dX4_learns_17 ?_
    refine lv_iload_n hx hb dX4_learns_18 rfl (lv_at hl 1 rfl) ?_
    refine m_cv (va_runV (As := [.int (zI (f : Int)), .int (zI (r : Int))]) (rest := []) ⟨hx, hb, hml, hown, hts⟩ (metX4_places (al := alk (wTx w f) (wTx w r)) (by have := hK.n; omega) ⟨hR.len (by omega), (hK.tx (by omega)).1⟩ ⟨hR.len (by omega), (hK.tx (by omega)).1⟩ (fun i j h1 h2 => hR.al hK (by omega) (by omega) h1 h2) (r := wRun w) ⟨hR.2, hK.ru.1, hK.ru.2.1⟩) (cwV 2 hts (lw_V q3501 q3503 qs53 q102 q3504) rfl rfl rfl (by decide +kernel) ⟨Nat.le_of_ble_eq_true rfl, Nat.le_of_ble_eq_true rfl⟩) (m_preV hG) rfl rfl hl.1 rfl (lv_room (Nat.le_of_ble_eq_true rfl)) dX4_learns_19 ⟨Nat.le_of_ble_eq_true rfl, Nat.le_of_ble_eq_true rfl⟩) hG (fun S_2 H locs hp hG => ?_)
    obtain ⟨hre, hpl, hpa, hmo⟩ := hp
    have hG : mW X mo ad S_2 s H locs := hG
    refine lv_iconst (v := zI 0) hx hb dX4_learns_22 (by decide +kernel) ?_
    refine lv_istore_n (lv' := [(2, .int (zI 0)), (0, .ref mo), (1, .int (zI (r : Int)))]) hx hb dX4_learns_23 rfl hl (by decide) rfl (fun ls hl => ?_)
    refine g_loop (fun mz H locs ls => ∃ (i : Nat) (T : mS), (i ≤ 24 ∧ mz = 24 - i ∧ mBut4 S T ∧ (∀ x, x < 24 * r ∨ 24 * r + 24 ≤ x → T.2.1 4 x = S.2.1 4 x) ∧ (∀ j, j < i → T.2.1 4 (24 * r + j) = oI (mPlace (wTx w f) (wTx w r) (wRun w) j)) ∧ ∀ j, j < 24 → T.2.1 26 j = oI (mPlace (wTx w f) (wTx w r) (wRun w) j)) ∧ mW X mo ad T s H locs ∧ lv_has ls 3 [(0, .ref mo), (1, .int (zI (r : Int))), (2, .int (zI (i : Int)))]) (24 - 0) ⟨0, S_2, ⟨by omega, rfl, hre.b4, fun x _ => congrFun (hre 4 (by decide)).2.1 x, fun j hj => by omega, hpl⟩, hG, (lv_sub hl [1, 2, 0] rfl)⟩ (fun mz ihA H locs ls hI => ?_)
    obtain ⟨i, T, ⟨hi, hmz, hb4, hoff, hon, h26⟩, hG, hl⟩ := hI
    refine lv_iload_n hx hb dX4_learns_24 rfl (lv_at hl 2 rfl) ?_
    refine lv_bipush (v := zI 24) hx hb dX4_learns_25 (by decide +kernel) ?_
    refine g_cge (tgt := 53) hx hb dX4_learns_27 (by decide) (by omega) (fun h2 => ?_) (fun h2 => ?_)
    · exact m_vret hx hb hr hlocks hG (⟨hb4, hoff, fun _ i hi => by rw [hon i (by omega)]; unfold cmR; rw [hf]⟩) ⟨Nat.le_of_ble_eq_true rfl, Nat.le_of_ble_eq_true rfl⟩ dX4_learns_53
    · refine lv_aload_n hx hb dX4_learns_30 rfl (lv_at hl 0 rfl) ?_
      refine m_get 4 (by decide) (v := .ref (ad 4)) rfl hx hb hts hown hG (hts _ q3300) dX4_learns_31 ?_
      refine lv_bipush (v := zI 24) hx hb dX4_learns_34 (by decide +kernel) ?_
      refine lv_iload_n hx hb dX4_learns_36 rfl (lv_at hl 1 rfl) ?_
      refine g_imul hx hb dX4_learns_37 ?_
      refine lv_iload_n hx hb dX4_learns_38 rfl (lv_at hl 2 rfl) ?_
      refine g_iadd hx hb dX4_learns_39 ?_
      refine lv_aload_n hx hb dX4_learns_40 rfl (lv_at hl 0 rfl) ?_
      refine m_get 26 (by decide) (v := .ref (ad 26)) rfl hx hb hts hown hG (hts _ q3322) dX4_learns_41 ?_
      refine lv_iload_n hx hb dX4_learns_44 rfl (lv_at hl 2 rfl) ?_
      refine m_iald 26 rfl rfl (by decide) i (v := (oI (mPlace (wTx w f) (wTx w r) (wRun w) i))) ⟨by omega, by show _ < 24; omega⟩ (h26 i (by omega)) hx hb hG dX4_learns_45 ?_
      refine m_iast 4 rfl rfl (by decide) (24 * r + i) ⟨by omega, by show _ < 384; omega⟩ hx hb hG dX4_learns_46 (fun H locs (hG : mW X mo ad (sA T 4 (24 * r + i) (oI (mPlace (wTx w f) (wTx w r) (wRun w) i))) s H locs) => ?_)
      refine lv_iinc (v := zI ((i : Int) + 1 : Int)) (lv' := [(2, .int (zI ((i : Int) + 1 : Int))), (0, .ref mo), (1, .int (zI (r : Int)))]) hx hb dX4_learns_47 hl (k := 2) rfl ((zI_add _ _).trans (congrArg zI (by omega))) (by decide) rfl (fun ls hl => ?_)
      refine lv_goto (tgt := 24) hx hb dX4_learns_50 (by decide) ?_
      exact ihA (24 - (i + 1)) (by omega) H locs ls ⟨(i + 1), (sA T 4 (24 * r + i) (oI (mPlace (wTx w f) (wTx w r) (wRun w) i))), ⟨by omega, by omega, hb4.A _ _, fun x hx => (sA_n (by omega)).trans (hoff x hx), fun j hj => by by_cases hji : j = i; (subst hji; exact sA_s); exact (sA_n (by omega)).trans (hon j (by omega)), fun j hj => (congrFun (sA_o (by decide)) j).trans (h26 j hj)⟩, hG, (lv_sub hl [1, 2, 0] rfl)⟩
  · exact m_vret hx hb hr hlocks hG (⟨mReal.rf.b4, fun _ _ => rfl, fun q => absurd (oI_m1.mp h1) q⟩) ⟨Nat.le_of_ble_eq_true rfl, Nat.le_of_ble_eq_true rfl⟩ dX4_learns_10

