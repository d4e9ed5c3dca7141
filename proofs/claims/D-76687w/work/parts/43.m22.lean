set_option maxRecDepth 100000
def agP (w : aW) (x m : Nat) : Bool := decide (rOn (wRk w m) = x) && !wSt w m
def agR (w : aW) (t m : Nat) : Rm := (rKind (wRk w m), rBy (wRk w m), t, rP (wRk w m), rQ (wRk w m), rAns (wRk w m))
/-- the remarks of x, not settled, are made again on the newest revision: of the first n -/
def agF (w : aW) (x y : Nat) : Nat → aW
  | 0 => wAdd w (some y) (wTx w x)
  | m + 1 => if agP w x m = true then wMake (agF w x y m) (agR w (wN w) m) else agF w x y m
def opAgain (a : aS) (x y : Int) : Int × aS := if ¬ ((0 ≤ x ∧ x < wN (aWd a)) ∧ 0 ≤ y ∧ y < wN (aWd a)) then aNoR a 1 else match beh (wFo (aWd a)) y.toNat x.toNat with
  | some _ => aNoR a 6
  | none => if wN (aWd a) = 16 ∨ 16 < wM (aWd a) + cnB (agP (aWd a) x.toNat) (wM (aWd a)) then aNoR a 7 else ((cnB (agP (aWd a) x.toNat) (wM (aWd a)) : Nat), aSetW a (agF (aWd a) x.toNat y.toNat (wM (aWd a))))
theorem agF_rest {w : aW} {x y : Nat} : ∀ n, (agF w x y n).1 = (wAdd w (some y) (wTx w x)).1 ∧ (agF w x y n).2.2 = w.2.2 ∧ wM (agF w x y n) = wM w + cnB (agP w x) n ∧ (∀ m, m < wM w → wRk (agF w x y n) m = wRk w m ∧ wSt (agF w x y n) m = wSt w m) ∧ wSeed (agF w x y n) = wSeed w := by
  intro n
  induction n with
  | zero => exact ⟨rfl, rfl, rfl, fun m hm => ⟨rfl, rfl⟩, rfl⟩
  | succ n ih =>
    obtain ⟨h1, h2, h3, h4, h5⟩ := ih
    rw [agF, cnB]
    by_cases hp : agP w x n = true
    · rw [if_pos hp, if_pos hp]
      refine ⟨h1, h2, by show wM (agF w x y n) + 1 = _; omega, fun m hm => ?_, h5⟩
      have hne : m ≠ wM (agF w x y n) := by omega
      exact ⟨(va_up_ne _ _ hne).trans (h4 m hm).1, (va_up_ne _ _ hne).trans (h4 m hm).2⟩
    · rw [if_neg hp, if_neg hp]; exact ⟨h1, h2, h3, h4, h5⟩
theorem wOK.ag {w : aW} {x y : Nat} (k : wOK w) (hx : x < wN w) (hy : y < wN w) (hn : wN w < 16) : ∀ n, n ≤ wM w → wM w + cnB (agP w x) n ≤ 16 → wOK (agF w x y n) := by
  intro n
  induction n with
  | zero => intro _ _; exact k.add hn (fun f hf => by cases hf; exact hy) (k.tx hx)
  | succ n ih =>
    intro h1 h2
    rw [cnB] at h2
    have h3 := ih (by omega) (by omega)
    rw [agF]
    by_cases hp : agP w x n = true
    · rw [if_pos hp]
      rw [if_pos hp] at h2
      obtain ⟨q1, q2, q3, q4, q5⟩ := agF_rest (w := w) (x := x) (y := y) n
      have hr := k.rm (m := n) (by omega)
      have hon : rOn (wRk w n) = x := by
        have : (decide (rOn (wRk w n) = x) && !wSt w n) = true := hp
        rw [Bool.and_eq_true, decide_eq_true_iff] at this
        exact this.1
      refine ⟨h3.n, fun r hr => h3.tx hr, h3.fo, by show wM (agF w x y n) + 1 ≤ 16; omega, fun m hm => ?_, h3.ru⟩
      have hm : m < wM (agF w x y n) + 1 := hm
      show rmOK (agF w x y n) m (va_up (wRk (agF w x y n)) (wM (agF w x y n)) (agR w (wN w) n) m)
      by_cases hmn : m = wM (agF w x y n)
      · subst hmn
        rw [va_up_self]
        refine ⟨hr.1, hr.2.1, ?_, hr.2.2.2.1, ?_, fun z hz => by have := hr.2.2.2.2.2 z hz; omega⟩
        · show wN w < (agF w x y n).1.1
          rw [q1]; exact Nat.lt_succ_self _
        · show rQ (wRk w n) < ((agF w x y n).1.2.2 (wN w)).length
          rw [q1]
          show rQ (wRk w n) < (wTx (wAdd w (some y) (wTx w x)) (wN w)).length
          rw [wAdd_tx', ← hon]; exact hr.2.2.2.2.1
      · rw [va_up_ne _ _ hmn]
        exact h3.rm (by omega)
    · rw [if_neg hp]
      exact h3
theorem cnB_lem (p : Nat → Bool) {k : Nat} : ∀ {n}, k ≤ n → cnB p k ≤ cnB p n := by
  intro n
  induction n with
  | zero => intro h; rw [show k = 0 by omega]; exact Nat.le_refl _
  | succ n ih =>
    intro h
    by_cases hk : k = n + 1
    · subst hk; exact Nat.le_refl _
    · have := ih (by omega); rw [cnB_S]; omega
theorem mO.copies {S T : mS} {w : aW} {r : Nat} (h : mO S w) (hI : T.1 = S.1) (h2 : ∀ j, T.2.1 2 j = if j = wN w then S.2.1 2 r else S.2.1 2 j) (hA : ∀ k, k ≠ 2 → T.2.1 k = S.2.1 k) (hO : ∀ x, x < 24 * wN w ∨ 24 * wN w + 24 ≤ x → T.2.2 3 x = S.2.2 3 x) (hK : ∀ k, k ≠ 3 → T.2.2 k = S.2.2 k) (ok : ∀ r, r < wN w → (wTx w r).length ≤ 24) : mO T w := by
  obtain ⟨h1, hr, hc, hm, h5, h6⟩ := h
  have e7 := hA 7 (by decide)
  refine ⟨by rw [hI]; exact h1, ⟨fun q hq => ⟨?_, ?_, fun i hi => ?_⟩, by rw [e7]; exact hr.2⟩, ?_, ?_, by rw [e7]; exact h5, by rw [e7]; exact h6⟩
  · rw [hA 1 (by decide)]; exact hr.fo hq
  · rw [h2, if_neg (by omega)]; exact hr.len hq
  · have := ok q hq
    rw [hO _ (by omega)]; exact hr.ln hq hi
  · unfold mCm; rw [hA 4 (by decide)]; exact hc
  · unfold mRk; rw [hA 6 (by decide)]; exact hm
theorem mX.ag {S T : mS} {a : aS} {w' : aW} (h : mX S a) (hO : mO T w') (e : ∀ k, k < 25 → (k ≠ 0 → k ≠ 5 → T.1 k = S.1 k) ∧ (k ≠ 1 → k ≠ 2 → k ≠ 4 → k ≠ 6 → T.2.1 k = S.2.1 k) ∧ (k ≠ 3 → T.2.2 k = S.2.2 k)) : mX T (aSetW a w') :=
  ⟨hO, h.2.1.cg ⟨⟨(e 16 (by decide)).1 (by decide) (by decide), (e 17 (by decide)).1 (by decide) (by decide), (e 21 (by decide)).1 (by decide) (by decide), (e 24 (by decide)).1 (by decide) (by decide)⟩, ⟨(e 18 (by decide)).2.1 (by decide) (by decide) (by decide) (by decide), (e 19 (by decide)).2.1 (by decide) (by decide) (by decide) (by decide), (e 22 (by decide)).2.1 (by decide) (by decide) (by decide) (by decide), (e 23 (by decide)).2.1 (by decide) (by decide) (by decide) (by decide)⟩, (e 20 (by decide)).2.2 (by decide)⟩,
   fun s hs => (h.2.2.1 s hs).cg' ⟨(e 9 (by decide)).2.1 (by decide) (by decide) (by decide) (by decide), (e 10 (by decide)).2.1 (by decide) (by decide) (by decide) (by decide), (e 11 (by decide)).2.2 (by decide)⟩,
   fun j hj => (congrFun ((e 15 (by decide)).2.1 (by decide) (by decide) (by decide) (by decide)) j).trans (h.2.2.2.1 j hj), ((e 12 (by decide)).1 (by decide) (by decide)).trans h.2.2.2.2.1, h.2.2.2.2.2.cg ⟨(e 13 (by decide)).1 (by decide) (by decide), (e 14 (by decide)).2.1 (by decide) (by decide) (by decide) (by decide)⟩⟩
set_option maxHeartbeats 4000000 in
theorem metX4_again {l : Launch} {X : gX} {mo : Nat} {ad : Nat → Nat} {S : mS} {a : aS} (hX : mX S a) (hA : aOK a) {x y : Int} (hr0 : -2147483648 ≤ x ∧ x < 2147483648 ∧ -2147483648 ≤ y ∧ y < 2147483648) : Met l yX4_again (ws_ yX4_again cX4_again 7 (some FieldType.int)) ({ frames := 6, cells := 0, slots := 0, locals := 143 }) (mP X mo ad S [.ref mo, .int (zI x), .int (zI y)]) (mQi X mo ad (fun u T => u = zI (opAgain a x y).1 ∧ mX T (opAgain a x y).2)) 0 0 (mA mo ad) := by
  refine Met.m (by decide) (Nat.le_of_ble_eq_true rfl) ?_
  intro p e s m below meth c ls hx hb hr hts hown hlocks hml hG hl
  have hl : lv_has ls 7 [(0, .ref mo), (1, .int (zI x)), (2, .int (zI y))] := hl
  have hNN := hA.w.n
  have hMM := hA.w.m
  refine lv_aload_n hx hb dX4_again_0 rfl (lv_at hl 0 rfl) ?_
  refine lv_iload_n hx hb dX4_again_1 rfl (lv_at hl 1 rfl) ?_
  have hq1 := hX.o.n
  have hQ1 := hA.w.n
  refine m_ci (va_runV (As := [.int (zI x)]) (rest := []) ⟨hx, hb, hml, hown, hts⟩ (metX4_isRevision (by omega) (by omega)) (cwV 1 hts (lw_V q3481 q3483 qs48 q102 q3484) rfl rfl rfl (by decide +kernel) ⟨Nat.le_of_ble_eq_true rfl, Nat.le_of_ble_eq_true rfl⟩) (m_preV hG) rfl rfl hl.1 rfl (lv_room (Nat.le_of_ble_eq_true rfl)) dX4_again_2 ⟨Nat.le_of_ble_eq_true rfl, Nat.le_of_ble_eq_true rfl⟩) hG (fun r_1 S_2 H locs hp hG => ?_)
  obtain ⟨b1, rfl, hb1, rfl⟩ := hp
  have hG : mW X mo ad S s H locs := hG
  refine g_eq (tgt := 16) hx hb dX4_again_5 (by decide) (by omega) (fun h2 => ?_) (fun h2 => ?_)
  · refine lv_aload_n hx hb dX4_again_16 rfl (lv_at hl 0 rfl) ?_
    refine lv_iconst (v := zI (-1)) hx hb dX4_again_17 (by decide +kernel) ?_
    refine g_topz (y := -((1 : Nat) : Int)) (by decide) ?_
    refine m_ci (va_runV (As := [.int (zI (-((1 : Nat) : Int)))]) (rest := []) ⟨hx, hb, hml, hown, hts⟩ (metX4_no 1 (by decide)) (cwV 1 hts (lw_V q3427 q3429 qs43 q102 q3430) rfl rfl rfl (by decide +kernel) ⟨Nat.le_of_ble_eq_true rfl, Nat.le_of_ble_eq_true rfl⟩) (m_preV hG) rfl rfl hl.1 rfl (lv_room (Nat.le_of_ble_eq_true rfl)) dX4_again_18 ⟨Nat.le_of_ble_eq_true rfl, Nat.le_of_ble_eq_true rfl⟩) hG (fun r_3 S_4 H locs hp hG => ?_)
    obtain ⟨rfl, rfl⟩ := hp
    have hG : mW X mo ad (mNo S 1) s H locs := hG
    exact m_iret hx hb hr hlocks hG (by first | (exfalso; omega) | exact (hX.noR 1 (by unfold opAgain; all_goals ((repeat (first | rw [if_pos (by omega)] | rw [if_neg (by omega)])) <;> rfl)))) ⟨Nat.le_of_ble_eq_true rfl, Nat.le_of_ble_eq_true rfl⟩ dX4_again_21
  · refine lv_aload_n hx hb dX4_again_8 rfl (lv_at hl 0 rfl) ?_
    refine lv_iload_n hx hb dX4_again_9 rfl (lv_at hl 2 rfl) ?_
    have hq3 := hX.o.n
    have hQ3 := hA.w.n
    refine m_ci (va_runV (As := [.int (zI y)]) (rest := []) ⟨hx, hb, hml, hown, hts⟩ (metX4_isRevision (by omega) (by omega)) (cwV 1 hts (lw_V q3481 q3483 qs48 q102 q3484) rfl rfl rfl (by decide +kernel) ⟨Nat.le_of_ble_eq_true rfl, Nat.le_of_ble_eq_true rfl⟩) (m_preV hG) rfl rfl hl.1 rfl (lv_room (Nat.le_of_ble_eq_true rfl)) dX4_again_10 ⟨Nat.le_of_ble_eq_true rfl, Nat.le_of_ble_eq_true rfl⟩) hG (fun r_5 S_6 H locs hp hG => ?_)
    obtain ⟨b3, rfl, hb3, rfl⟩ := hp
    have hG : mW X mo ad S s H locs := hG
    refine g_ne (tgt := 22) hx hb dX4_again_13 (by decide) (by omega) (fun h4 => ?_) (fun h4 => ?_)
    · obtain ⟨x1, rfl⟩ : ∃ n9 : Nat, x = n9 := ⟨x.toNat, by omega⟩
      obtain ⟨y1, rfl⟩ : ∃ n9 : Nat, y = n9 := ⟨y.toNat, by omega⟩
      refine lv_aload_n hx hb dX4_again_22 rfl (lv_at hl 0 rfl) ?_
      refine lv_iload_n hx hb dX4_again_23 rfl (lv_at hl 2 rfl) ?_
      refine lv_iload_n hx hb dX4_again_24 rfl (lv_at hl 1 rfl) ?_
      refine m_ci (va_runV (As := [.int (zI (y1 : Int)), .int (zI (x1 : Int))]) (rest := []) ⟨hx, hb, hml, hown, hts⟩ (metX4_behind (t := y1) (r := x1) hX.o hA.w (by omega) (by omega)) (cwV 2 hts (lw_V q3563 q3565 qs60 q102 q3566) rfl rfl rfl (by decide +kernel) ⟨Nat.le_of_ble_eq_true rfl, Nat.le_of_ble_eq_true rfl⟩) (m_preV hG) rfl rfl hl.1 rfl (lv_room (Nat.le_of_ble_eq_true rfl)) dX4_again_25 ⟨Nat.le_of_ble_eq_true rfl, Nat.le_of_ble_eq_true rfl⟩) hG (fun r_7 S_8 H locs hp hG => ?_)
      obtain ⟨rfl, har, hch⟩ := hp
      have hG : mW X mo ad S_8 s H locs := hG
      have hre := har.real (by decide)
      rcases hbh : beh (wFo (aWd a)) y1 x1 with _ | n
      · refine g_topz (x := oI none) (y := -1) rfl ?_
        refine lv_iconst (v := zI (-1)) hx hb dX4_again_28 (by decide +kernel) ?_
        refine g_ceq (tgt := 39) hx hb dX4_again_29 (by decide) (by omega) (fun h6 => ?_) (fun h6 => ?_)
        · have hXr := hX.real hre
          refine lv_iconst (v := zI 0) hx hb dX4_again_39 (by decide +kernel) ?_
          refine lv_istore_n (lv' := [(3, .int (zI 0)), (0, .ref mo), (1, .int (zI (x1 : Int))), (2, .int (zI (y1 : Int)))]) hx hb dX4_again_40 rfl hl (by decide) rfl (fun ls hl => ?_)
          refine lv_iconst (v := zI 0) hx hb dX4_again_41 (by decide +kernel) ?_
          refine lv_istore (lv' := [(4, .int (zI 0)), (3, .int (zI 0)), (0, .ref mo), (1, .int (zI (x1 : Int))), (2, .int (zI (y1 : Int)))]) hx hb dX4_again_42 hl (by decide) rfl (fun ls hl => ?_)
          have hl : lv_has ls 7 [(4, .int (zI ((0 : Nat) : Int))), (3, .int (zI (cnB (agP (aWd a) x1) 0 : Int))), (0, .ref mo), (1, .int (zI (x1 : Int))), (2, .int (zI (y1 : Int)))] := by exact hl
          refine g_loop (fun mz H locs ls => ∃ (z : Nat), (z ≤ wM (aWd a) ∧ mz = wM (aWd a) - z) ∧ mW X mo ad S_8 s H locs ∧ lv_has ls 7 [(0, .ref mo), (1, .int (zI (x1 : Int))), (2, .int (zI (y1 : Int))), (3, .int (zI (cnB (agP (aWd a) x1) z : Int))), (4, .int (zI (z : Int)))]) (wM (aWd a) - 0) ⟨0, ⟨Nat.zero_le _, rfl⟩, hG, (lv_sub hl [2, 3, 4, 1, 0] rfl)⟩ (fun mz ihA H locs ls hI => ?_)
          obtain ⟨z, ⟨hz9, hmz⟩, hG, hl⟩ := hI
          refine lv_iload hx hb dX4_again_44 (lv_at hl 4 rfl) ?_
          refine lv_aload_n hx hb dX4_again_46 rfl (lv_at hl 0 rfl) ?_
          refine m_get 5 (by decide) (v := .int (zI (wM (aWd a) : Int))) (congrArg (fun z => Value.int (zI z)) (show S_8.1 5 = (wM (aWd a) : Int) from hXr.o.m)) hx hb hts hown hG (hts _ q3301) dX4_again_47 ?_
          have hcl := cnB_le (agP (aWd a) x1) z
          refine g_cge (tgt := 84) hx hb dX4_again_50 (by decide) (by omega) (fun h2 => ?_) (fun h2 => ?_)
          · have hzM : z = wM (aWd a) := by omega
            subst hzM
            refine lv_aload_n hx hb dX4_again_84 rfl (lv_at hl 0 rfl) ?_
            refine m_get 0 (by decide) (v := .int (zI (wN (aWd a) : Int))) (congrArg (fun z => Value.int (zI z)) (show S_8.1 0 = (wN (aWd a) : Int) from hXr.o.n)) hx hb hts hown hG (hts _ q3296) dX4_again_85 ?_
            refine lv_bipush (v := zI 16) hx hb dX4_again_88 (by decide +kernel) ?_
            refine g_ceq (tgt := 104) hx hb dX4_again_90 (by decide) (by omega) (fun h8 => ?_) (fun h8 => ?_)
            · refine lv_aload_n hx hb dX4_again_104 rfl (lv_at hl 0 rfl) ?_
              refine lv_bipush (v := zI (-7)) hx hb dX4_again_105 (by decide +kernel) ?_
              refine g_topz (y := -((7 : Nat) : Int)) (by decide) ?_
              refine m_ci (va_runV (As := [.int (zI (-((7 : Nat) : Int)))]) (rest := []) ⟨hx, hb, hml, hown, hts⟩ (metX4_no 7 (by decide)) (cwV 1 hts (lw_V q3427 q3429 qs43 q102 q3430) rfl rfl rfl (by decide +kernel) ⟨Nat.le_of_ble_eq_true rfl, Nat.le_of_ble_eq_true rfl⟩) (m_preV hG) rfl rfl hl.1 rfl (lv_room (Nat.le_of_ble_eq_true rfl)) dX4_again_107 ⟨Nat.le_of_ble_eq_true rfl, Nat.le_of_ble_eq_true rfl⟩) hG (fun r_9 S_10 H locs hp hG => ?_)
              obtain ⟨rfl, rfl⟩ := hp
              have hG : mW X mo ad (mNo S_8 7) s H locs := hG
              exact m_iret hx hb hr hlocks hG (hXr.noR 7 (by unfold opAgain; (repeat (first | rw [if_pos (by omega)] | rw [if_neg (by omega)])); simp only [Int.toNat_natCast, hbh]; all_goals (rw [if_pos (by omega)]))) ⟨Nat.le_of_ble_eq_true rfl, Nat.le_of_ble_eq_true rfl⟩ dX4_again_110
            · refine lv_aload_n hx hb dX4_again_93 rfl (lv_at hl 0 rfl) ?_
              refine m_get 5 (by decide) (v := .int (zI (wM (aWd a) : Int))) (congrArg (fun z => Value.int (zI z)) (show S_8.1 5 = (wM (aWd a) : Int) from hXr.o.m)) hx hb hts hown hG (hts _ q3301) dX4_again_94 ?_
              refine lv_iload_n hx hb dX4_again_97 rfl (lv_at hl 3 rfl) ?_
              refine g_iadd hx hb dX4_again_98 ?_
              refine lv_bipush (v := zI 16) hx hb dX4_again_99 (by decide +kernel) ?_
              refine g_cle (tgt := 111) hx hb dX4_again_101 (by decide) (by omega) (fun h9 => ?_) (fun h9 => ?_)
              · have hlx := hXr.o.len (r := x1) (by omega)
                have htx := hA.w.tx (r := x1) (by omega)
                refine lv_aload_n hx hb dX4_again_111 rfl (lv_at hl 0 rfl) ?_
                refine lv_iload_n hx hb dX4_again_112 rfl (lv_at hl 1 rfl) ?_
                refine m_cv (va_runV (As := [.int (zI (x1 : Int))]) (rest := []) ⟨hx, hb, hml, hown, hts⟩ (metX4_copies (n := wN (aWd a)) ⟨hXr.o.n, by omega, by omega⟩) (cwV 1 hts (lw_V q3684 q3686 qs77 q102 q3687) rfl rfl rfl (by decide +kernel) ⟨Nat.le_of_ble_eq_true rfl, Nat.le_of_ble_eq_true rfl⟩) (m_preV hG) rfl rfl hl.1 rfl (lv_room (Nat.le_of_ble_eq_true rfl)) dX4_again_113 ⟨Nat.le_of_ble_eq_true rfl, Nat.le_of_ble_eq_true rfl⟩) hG (fun S_12 H locs hp hG => ?_)
                obtain ⟨hcI, hc2, hcA, hcL, hcO, hcK⟩ := hp
                have hG : mW X mo ad S_12 s H locs := hG
                have hO2 : mO S_12 (aWd a) := mO.copies hXr.o hcI hc2 hcA hcO hcK (fun r hr => (hA.w.tx hr).1)
                refine lv_aload_n hx hb dX4_again_116 rfl (lv_at hl 0 rfl) ?_
                refine lv_iload_n hx hb dX4_again_117 rfl (lv_at hl 2 rfl) ?_
                refine g_topz (y := oI (some y1)) rfl ?_
                refine m_ci (va_runV (As := [.int (zI (oI (some y1)))]) (rest := []) ⟨hx, hb, hml, hown, hts⟩ (metX4_comesTo (fo := some y1) (t := wTx (aWd a) x1) hO2 hA.w (by omega) (fun f hf => by cases hf; omega) htx (by rw [hc2, if_pos rfl]; exact hlx) (fun i hi => by rw [hcL i (by have := htx.1; omega)]; exact hXr.o.ln (by omega) hi)) (cwV 1 hts (lw_V q3493 q3495 qs51 q102 q3496) rfl rfl rfl (by decide +kernel) ⟨Nat.le_of_ble_eq_true rfl, Nat.le_of_ble_eq_true rfl⟩) (m_preV hG) rfl rfl hl.1 rfl (lv_room (Nat.le_of_ble_eq_true rfl)) dX4_again_118 ⟨Nat.le_of_ble_eq_true rfl, Nat.le_of_ble_eq_true rfl⟩) hG (fun r_13 S_14 H locs hp hG => ?_)
                obtain ⟨rfl, hO9, hk14⟩ := hp
                have hG : mW X mo ad S_14 s H locs := hG
                have hO3 : mO S_14 (agF (aWd a) x1 y1 0) := hO9
                refine lv_istore (lv' := [(4, .int (zI (wN (aWd a) : Int))), (0, .ref mo), (1, .int (zI (x1 : Int))), (2, .int (zI (y1 : Int))), (3, .int (zI (cnB (agP (aWd a) x1) (wM (aWd a)) : Int)))]) hx hb dX4_again_121 hl (by decide) rfl (fun ls hl => ?_)
                refine lv_aload_n hx hb dX4_again_123 rfl (lv_at hl 1 rfl) ?_
                refine m_get 5 (by decide) (v := .int (zI (wM (aWd a) : Int))) (congrArg (fun z => Value.int (zI z)) (show S_14.1 5 = (wM (aWd a) : Int) from hO3.m)) hx hb hts hown hG (hts _ q3301) dX4_again_124 ?_
                refine lv_istore (lv' := [(5, .int (zI (wM (aWd a) : Int))), (4, .int (zI (wN (aWd a) : Int))), (0, .ref mo), (1, .int (zI (x1 : Int))), (2, .int (zI (y1 : Int))), (3, .int (zI (cnB (agP (aWd a) x1) (wM (aWd a)) : Int)))]) hx hb dX4_again_127 hl (by decide) rfl (fun ls hl => ?_)
                refine lv_iconst (v := zI 0) hx hb dX4_again_129 (by decide +kernel) ?_
                refine lv_istore (lv' := [(6, .int (zI 0)), (5, .int (zI (wM (aWd a) : Int))), (4, .int (zI (wN (aWd a) : Int))), (0, .ref mo), (1, .int (zI (x1 : Int))), (2, .int (zI (y1 : Int))), (3, .int (zI (cnB (agP (aWd a) x1) (wM (aWd a)) : Int)))]) hx hb dX4_again_130 hl (by decide) rfl (fun ls hl => ?_)
                have hl : lv_has ls 7 [(6, .int (zI ((0 : Nat) : Int))), (5, .int (zI (wM (aWd a) : Int))), (4, .int (zI (wN (aWd a) : Int))), (0, .ref mo), (1, .int (zI (x1 : Int))), (2, .int (zI (y1 : Int))), (3, .int (zI (cnB (agP (aWd a) x1) (wM (aWd a)) : Int)))] := by exact hl
                have hkk : (∀ k, k < 25 → (k ≠ 0 → k ≠ 5 → S_14.1 k = S.1 k) ∧ (k ≠ 1 → k ≠ 2 → k ≠ 4 → k ≠ 6 → S_14.2.1 k = S.2.1 k) ∧ (k ≠ 3 → S_14.2.2 k = S.2.2 k)) := fun k hk => ⟨fun q0 q5 => ((hk14 k hk).1 q0).trans ((congrFun hcI k).trans (hre k hk).1), fun q1 q2 q4 q6 => ((hk14 k hk).2.1 q1 q4).trans ((hcA k q2).trans (hre k hk).2.1), fun q3 => ((hk14 k hk).2.2).trans ((hcK k q3).trans (hre k hk).2.2)⟩
                refine g_loop (fun mz H locs ls => ∃ (z : Nat) (T : mS), (z ≤ wM (aWd a) ∧ mz = wM (aWd a) - z ∧ mO T (agF (aWd a) x1 y1 z) ∧ (∀ k, k < 25 → (k ≠ 0 → k ≠ 5 → T.1 k = S.1 k) ∧ (k ≠ 1 → k ≠ 2 → k ≠ 4 → k ≠ 6 → T.2.1 k = S.2.1 k) ∧ (k ≠ 3 → T.2.2 k = S.2.2 k))) ∧ mW X mo ad T s H locs ∧ lv_has ls 7 [(0, .ref mo), (1, .int (zI (x1 : Int))), (3, .int (zI (cnB (agP (aWd a) x1) (wM (aWd a)) : Int))), (4, .int (zI (wN (aWd a) : Int))), (5, .int (zI (wM (aWd a) : Int))), (6, .int (zI (z : Int)))]) (wM (aWd a) - 0) ⟨0, S_14, ⟨Nat.zero_le _, rfl, hO3, hkk⟩, hG, (lv_sub hl [3, 4, 6, 2, 1, 0] rfl)⟩ (fun mz ihB H locs ls hI => ?_)
                obtain ⟨z, T, ⟨hz9, hmz, hOg, hkk⟩, hG, hl⟩ := hI
                obtain ⟨r1, r2, r3, r4, r5⟩ := agF_rest (w := aWd a) (x := x1) (y := y1) z
                have hcz := cnB_le (agP (aWd a) x1) z
                have hcm := cnB_lem (agP (aWd a) x1) hz9
                have hKg := hA.w.ag (x := x1) (y := y1) (by omega) (by omega) (by omega) z hz9 (by omega)
                refine lv_iload hx hb dX4_again_132 (lv_at hl 5 rfl) ?_
                refine lv_iload hx hb dX4_again_134 (lv_at hl 4 rfl) ?_
                refine g_cge (tgt := 209) hx hb dX4_again_136 (by decide) (by omega) (fun h2 => ?_) (fun h2 => ?_)
                · have hzM : z = wM (aWd a) := by omega
                  subst hzM
                  refine lv_iload_n hx hb dX4_again_209 rfl (lv_at hl 2 rfl) ?_
                  exact m_iret hx hb hr hlocks hG (by rw [show opAgain a x1 y1 = (((cnB (agP (aWd a) x1) (wM (aWd a)) : Nat) : Int), aSetW a (agF (aWd a) x1 y1 (wM (aWd a)))) from (by unfold opAgain; (repeat (first | rw [if_pos (by omega)] | rw [if_neg (by omega)])); simp only [Int.toNat_natCast, hbh]; rw [if_neg (by omega)])]; exact ⟨rfl, hX.ag hOg hkk⟩) ⟨Nat.le_of_ble_eq_true rfl, Nat.le_of_ble_eq_true rfl⟩ dX4_again_210
                · have hrz := hA.w.rk (m := z) (by omega)
                  refine lv_aload_n hx hb dX4_again_139 rfl (lv_at hl 0 rfl) ?_
                  refine lv_iconst (v := zI 2) hx hb dX4_again_140 (by decide +kernel) ?_
                  refine lv_iload hx hb dX4_again_141 (lv_at hl 5 rfl) ?_
                  refine m_ci (va_runV (As := [.int (zI 2), .int (zI (z : Int))]) (rest := []) ⟨hx, hb, hml, hown, hts⟩ (metX4_of 2 (m0 := z) (by omega)) (cwV 2 hts (lw_V q3467 q3469 qs47 q102 q3470) rfl rfl rfl (by decide +kernel) ⟨Nat.le_of_ble_eq_true rfl, Nat.le_of_ble_eq_true rfl⟩) (m_preV hG) rfl rfl hl.1 rfl (lv_room (Nat.le_of_ble_eq_true rfl)) dX4_again_143 ⟨Nat.le_of_ble_eq_true rfl, Nat.le_of_ble_eq_true rfl⟩) hG (fun r_15 S_16 H locs hp hG => ?_)
                  obtain ⟨rfl, rfl⟩ := hp
                  have hG : mW X mo ad T s H locs := hG
                  refine g_topz (y := (rOn (wRk (agF (aWd a) x1 y1 z) z) : Int)) (hOg.on (m := z) (by omega)) ?_
                  have hv5 := hKg.rk (m := z) (by omega)
                  refine g_topz (y := (rOn (wRk (aWd a) z) : Int)) (by rw [(r4 z (by omega)).1]) ?_
                  refine lv_iload_n hx hb dX4_again_146 rfl (lv_at hl 1 rfl) ?_
                  refine g_cne (tgt := 203) hx hb dX4_again_147 (by decide) (by omega) (fun h3 => ?_) (fun h3 => ?_)
                  · refine lv_iinc (v := zI ((z : Int) + 1 : Int)) (lv' := [(6, .int (zI ((z : Int) + 1 : Int))), (0, .ref mo), (1, .int (zI (x1 : Int))), (3, .int (zI (cnB (agP (aWd a) x1) (wM (aWd a)) : Int))), (4, .int (zI (wN (aWd a) : Int))), (5, .int (zI (wM (aWd a) : Int)))]) hx hb dX4_again_203 hl (k := 5) rfl ((zI_add _ _).trans (congrArg zI (by omega))) (by decide) rfl (fun ls hl => ?_)
                    have hl : lv_has ls 7 [(6, .int (zI ((z + 1 : Nat) : Int))), (0, .ref mo), (1, .int (zI (x1 : Int))), (3, .int (zI (cnB (agP (aWd a) x1) (wM (aWd a)) : Int))), (4, .int (zI (wN (aWd a) : Int))), (5, .int (zI (wM (aWd a) : Int)))] := by exact hl
                    refine lv_goto (tgt := 132) hx hb dX4_again_206 (by decide) ?_
                    exact ihB (wM (aWd a) - (z + 1)) (by omega) H locs ls ⟨(z + 1), T, ⟨by omega, rfl, by rw [agF, if_neg (by unfold agP; rw [decide_eq_false (by omega)]; exact nofun)]; exact hOg, hkk⟩, hG, (lv_sub hl [1, 2, 3, 4, 5, 0] rfl)⟩
                  · refine lv_aload_n hx hb dX4_again_150 rfl (lv_at hl 0 rfl) ?_
                    refine lv_bipush (v := zI 6) hx hb dX4_again_151 (by decide +kernel) ?_
                    refine lv_iload hx hb dX4_again_153 (lv_at hl 5 rfl) ?_
                    refine m_ci (va_runV (As := [.int (zI 6), .int (zI (z : Int))]) (rest := []) ⟨hx, hb, hml, hown, hts⟩ (metX4_of 6 (m0 := z) (by omega)) (cwV 2 hts (lw_V q3467 q3469 qs47 q102 q3470) rfl rfl rfl (by decide +kernel) ⟨Nat.le_of_ble_eq_true rfl, Nat.le_of_ble_eq_true rfl⟩) (m_preV hG) rfl rfl hl.1 rfl (lv_room (Nat.le_of_ble_eq_true rfl)) dX4_again_155 ⟨Nat.le_of_ble_eq_true rfl, Nat.le_of_ble_eq_true rfl⟩) hG (fun r_17 S_18 H locs hp hG => ?_)
                    obtain ⟨rfl, rfl⟩ := hp
                    have hG : mW X mo ad T s H locs := hG
                    refine g_topz (y := (bI (wSt (agF (aWd a) x1 y1 z) z))) (hOg.st (m := z) (by omega)) ?_
                    have hv6 : bI (wSt (agF (aWd a) x1 y1 z) z) = 0 ∨ bI (wSt (agF (aWd a) x1 y1 z) z) = 1 := by cases wSt (agF (aWd a) x1 y1 z) z <;> simp [bI]
                    refine g_topz (y := (bI (wSt (aWd a) z))) (by rw [(r4 z (by omega)).2]) ?_
                    have hst0 : bI (wSt (aWd a) z) = 0 ∨ bI (wSt (aWd a) z) = 1 := by cases wSt (aWd a) z <;> simp [bI]
                    refine g_ne (tgt := 203) hx hb dX4_again_158 (by decide) (by omega) (fun h4 => ?_) (fun h4 => ?_)
                    · refine lv_iinc (v := zI ((z : Int) + 1 : Int)) (lv' := [(6, .int (zI ((z : Int) + 1 : Int))), (0, .ref mo), (1, .int (zI (x1 : Int))), (3, .int (zI (cnB (agP (aWd a) x1) (wM (aWd a)) : Int))), (4, .int (zI (wN (aWd a) : Int))), (5, .int (zI (wM (aWd a) : Int)))]) hx hb dX4_again_203 hl (k := 5) rfl ((zI_add _ _).trans (congrArg zI (by omega))) (by decide) rfl (fun ls hl => ?_)
                      have hl : lv_has ls 7 [(6, .int (zI ((z + 1 : Nat) : Int))), (0, .ref mo), (1, .int (zI (x1 : Int))), (3, .int (zI (cnB (agP (aWd a) x1) (wM (aWd a)) : Int))), (4, .int (zI (wN (aWd a) : Int))), (5, .int (zI (wM (aWd a) : Int)))] := by exact hl
                      refine lv_goto (tgt := 132) hx hb dX4_again_206 (by decide) ?_
                      exact ihB (wM (aWd a) - (z + 1)) (by omega) H locs ls ⟨(z + 1), T, ⟨by omega, rfl, by rw [agF, if_neg (by unfold agP; rw [show wSt (aWd a) z = true from by cases hst : wSt (aWd a) z with | true => rfl | false => (rw [hst] at h4; exact absurd rfl h4)]; exact fun q => by rw [Bool.not_true, Bool.and_false] at q; cases q)]; exact hOg, hkk⟩, hG, (lv_sub hl [1, 2, 3, 4, 5, 0] rfl)⟩
                    · have hag : agP (aWd a) x1 z = true := by unfold agP; rw [decide_eq_true (by omega), show wSt (aWd a) z = false from bI_0.mp h4]; rfl
                      have hcS : cnB (agP (aWd a) x1) (z + 1) = cnB (agP (aWd a) x1) z + 1 := by rw [cnB, if_pos hag]
                      have hcm2 := cnB_lem (agP (aWd a) x1) (show z + 1 ≤ wM (aWd a) by omega)
                      refine lv_aload_n hx hb dX4_again_161 rfl (lv_at hl 0 rfl) ?_
                      refine lv_aload_n hx hb dX4_again_162 rfl (lv_at hl 0 rfl) ?_
                      refine lv_iconst (v := zI 0) hx hb dX4_again_163 (by decide +kernel) ?_
                      refine lv_iload hx hb dX4_again_164 (lv_at hl 5 rfl) ?_
                      refine m_ci (va_runV (As := [.int (zI 0), .int (zI (z : Int))]) (rest := [.ref mo]) ⟨hx, hb, hml, hown, hts⟩ (metX4_of 0 (m0 := z) (by omega)) (cwV 2 hts (lw_V q3467 q3469 qs47 q102 q3470) rfl rfl rfl (by decide +kernel) ⟨Nat.le_of_ble_eq_true rfl, Nat.le_of_ble_eq_true rfl⟩) (m_preV hG) rfl rfl hl.1 rfl (lv_room (Nat.le_of_ble_eq_true rfl)) dX4_again_166 ⟨Nat.le_of_ble_eq_true rfl, Nat.le_of_ble_eq_true rfl⟩) hG (fun r_19 S_20 H locs hp hG => ?_)
                      obtain ⟨rfl, rfl⟩ := hp
                      have hG : mW X mo ad T s H locs := hG
                      refine g_topz (y := (rKind (wRk (agF (aWd a) x1 y1 z) z) : Int)) ((congrArg (T.2.1 6) (by omega : 16 * 0 + z = z)).trans (hOg.kd (m := z) (by omega))) ?_
                      have hv7 := hKg.rk (m := z) (by omega)
                      refine g_topz (y := (rKind (wRk (aWd a) z) : Int)) (by rw [(r4 z (by omega)).1]) ?_
                      refine lv_aload_n hx hb dX4_again_169 rfl (lv_at hl 0 rfl) ?_
                      refine lv_iconst (v := zI 1) hx hb dX4_again_170 (by decide +kernel) ?_
                      refine lv_iload hx hb dX4_again_171 (lv_at hl 5 rfl) ?_
                      refine m_ci (va_runV (As := [.int (zI 1), .int (zI (z : Int))]) (rest := [.int (zI (rKind (wRk (aWd a) z) : Int)), .ref mo]) ⟨hx, hb, hml, hown, hts⟩ (metX4_of 1 (m0 := z) (by omega)) (cwV 2 hts (lw_V q3467 q3469 qs47 q102 q3470) rfl rfl rfl (by decide +kernel) ⟨Nat.le_of_ble_eq_true rfl, Nat.le_of_ble_eq_true rfl⟩) (m_preV hG) rfl rfl hl.1 rfl (lv_room (Nat.le_of_ble_eq_true rfl)) dX4_again_173 ⟨Nat.le_of_ble_eq_true rfl, Nat.le_of_ble_eq_true rfl⟩) hG (fun r_21 S_22 H locs hp hG => ?_)
                      obtain ⟨rfl, rfl⟩ := hp
                      have hG : mW X mo ad T s H locs := hG
                      refine g_topz (y := (rBy (wRk (agF (aWd a) x1 y1 z) z) : Int)) (hOg.by (m := z) (by omega)) ?_
                      have hv8 := hKg.rk (m := z) (by omega)
                      refine g_topz (y := (rBy (wRk (aWd a) z) : Int)) (by rw [(r4 z (by omega)).1]) ?_
                      refine lv_iload hx hb dX4_again_176 (lv_at hl 3 rfl) ?_
                      refine lv_aload_n hx hb dX4_again_178 rfl (lv_at hl 0 rfl) ?_
                      refine lv_iconst (v := zI 3) hx hb dX4_again_179 (by decide +kernel) ?_
                      refine lv_iload hx hb dX4_again_180 (lv_at hl 5 rfl) ?_
                      refine m_ci (va_runV (As := [.int (zI 3), .int (zI (z : Int))]) (rest := [.int (zI (wN (aWd a) : Int)), .int (zI (rBy (wRk (aWd a) z) : Int)), .int (zI (rKind (wRk (aWd a) z) : Int)), .ref mo]) ⟨hx, hb, hml, hown, hts⟩ (metX4_of 3 (m0 := z) (by omega)) (cwV 2 hts (lw_V q3467 q3469 qs47 q102 q3470) rfl rfl rfl (by decide +kernel) ⟨Nat.le_of_ble_eq_true rfl, Nat.le_of_ble_eq_true rfl⟩) (m_preV hG) rfl rfl hl.1 rfl (lv_room (Nat.le_of_ble_eq_true rfl)) dX4_again_182 ⟨Nat.le_of_ble_eq_true rfl, Nat.le_of_ble_eq_true rfl⟩) hG (fun r_23 S_24 H locs hp hG => ?_)
                      obtain ⟨rfl, rfl⟩ := hp
                      have hG : mW X mo ad T s H locs := hG
                      refine g_topz (y := (rP (wRk (agF (aWd a) x1 y1 z) z) : Int)) (hOg.p (m := z) (by omega)) ?_
                      have hv9 := hKg.rk (m := z) (by omega)
                      refine g_topz (y := (rP (wRk (aWd a) z) : Int)) (by rw [(r4 z (by omega)).1]) ?_
                      refine lv_aload_n hx hb dX4_again_185 rfl (lv_at hl 0 rfl) ?_
                      refine lv_iconst (v := zI 4) hx hb dX4_again_186 (by decide +kernel) ?_
                      refine lv_iload hx hb dX4_again_187 (lv_at hl 5 rfl) ?_
                      refine m_ci (va_runV (As := [.int (zI 4), .int (zI (z : Int))]) (rest := [.int (zI (rP (wRk (aWd a) z) : Int)), .int (zI (wN (aWd a) : Int)), .int (zI (rBy (wRk (aWd a) z) : Int)), .int (zI (rKind (wRk (aWd a) z) : Int)), .ref mo]) ⟨hx, hb, hml, hown, hts⟩ (metX4_of 4 (m0 := z) (by omega)) (cwV 2 hts (lw_V q3467 q3469 qs47 q102 q3470) rfl rfl rfl (by decide +kernel) ⟨Nat.le_of_ble_eq_true rfl, Nat.le_of_ble_eq_true rfl⟩) (m_preV hG) rfl rfl hl.1 rfl (lv_room (Nat.le_of_ble_eq_true rfl)) dX4_again_189 ⟨Nat.le_of_ble_eq_true rfl, Nat.le_of_ble_eq_true rfl⟩) hG (fun r_25 S_26 H locs hp hG => ?_)
                      obtain ⟨rfl, rfl⟩ := hp
                      have hG : mW X mo ad T s H locs := hG
                      refine g_topz (y := (rQ (wRk (agF (aWd a) x1 y1 z) z) : Int)) (hOg.q (m := z) (by omega)) ?_
                      have hv10 := hKg.rk (m := z) (by omega)
                      refine g_topz (y := (rQ (wRk (aWd a) z) : Int)) (by rw [(r4 z (by omega)).1]) ?_
                      refine lv_aload_n hx hb dX4_again_192 rfl (lv_at hl 0 rfl) ?_
                      refine lv_iconst (v := zI 5) hx hb dX4_again_193 (by decide +kernel) ?_
                      refine lv_iload hx hb dX4_again_194 (lv_at hl 5 rfl) ?_
                      refine m_ci (va_runV (As := [.int (zI 5), .int (zI (z : Int))]) (rest := [.int (zI (rQ (wRk (aWd a) z) : Int)), .int (zI (rP (wRk (aWd a) z) : Int)), .int (zI (wN (aWd a) : Int)), .int (zI (rBy (wRk (aWd a) z) : Int)), .int (zI (rKind (wRk (aWd a) z) : Int)), .ref mo]) ⟨hx, hb, hml, hown, hts⟩ (metX4_of 5 (m0 := z) (by omega)) (cwV 2 hts (lw_V q3467 q3469 qs47 q102 q3470) rfl rfl rfl (by decide +kernel) ⟨Nat.le_of_ble_eq_true rfl, Nat.le_of_ble_eq_true rfl⟩) (m_preV hG) rfl rfl hl.1 rfl (lv_room (Nat.le_of_ble_eq_true rfl)) dX4_again_196 ⟨Nat.le_of_ble_eq_true rfl, Nat.le_of_ble_eq_true rfl⟩) hG (fun r_27 S_28 H locs hp hG => ?_)
                      obtain ⟨rfl, rfl⟩ := hp
                      have hG : mW X mo ad T s H locs := hG
                      refine g_topz (y := (oI (rAns (wRk (agF (aWd a) x1 y1 z) z)))) (hOg.ans (m := z) (by omega)) ?_
                      have hv11 := oI_lt (fun z9 hz9 => hKg.ra (m := z) (x := z9) (by omega) hz9)
                      refine g_topz (y := (oI (rAns (wRk (aWd a) z)))) (by rw [(r4 z (by omega)).1]) ?_
                      refine m_ci (va_runV (As := [.int (zI (rKind (wRk (aWd a) z) : Int)), .int (zI (rBy (wRk (aWd a) z) : Int)), .int (zI (wN (aWd a) : Int)), .int (zI (rP (wRk (aWd a) z) : Int)), .int (zI (rQ (wRk (aWd a) z) : Int)), .int (zI (oI (rAns (wRk (aWd a) z))))]) (rest := []) ⟨hx, hb, hml, hown, hts⟩ (metX4_newRemark (rm := agR (aWd a) (wN (aWd a)) z) hOg hKg (by omega)) (cwV 6 hts (lw_V q3579 q3581 qs62 q102 q3582) rfl rfl rfl (by decide +kernel) ⟨Nat.le_of_ble_eq_true rfl, Nat.le_of_ble_eq_true rfl⟩) (m_preV hG) rfl rfl hl.1 rfl (lv_room (Nat.le_of_ble_eq_true rfl)) dX4_again_199 ⟨Nat.le_of_ble_eq_true rfl, Nat.le_of_ble_eq_true rfl⟩) hG (fun r_29 S_30 H locs hp hG => ?_)
                      obtain ⟨rfl, hOm, htk⟩ := hp
                      have hG : mW X mo ad S_30 s H locs := hG
                      refine lv_pop hx hb dX4_again_202 rfl ?_
                      refine lv_iinc (v := zI ((z : Int) + 1 : Int)) (lv' := [(6, .int (zI ((z : Int) + 1 : Int))), (0, .ref mo), (1, .int (zI (x1 : Int))), (3, .int (zI (cnB (agP (aWd a) x1) (wM (aWd a)) : Int))), (4, .int (zI (wN (aWd a) : Int))), (5, .int (zI (wM (aWd a) : Int)))]) hx hb dX4_again_203 hl (k := 5) rfl ((zI_add _ _).trans (congrArg zI (by omega))) (by decide) rfl (fun ls hl => ?_)
                      have hl : lv_has ls 7 [(6, .int (zI ((z + 1 : Nat) : Int))), (0, .ref mo), (1, .int (zI (x1 : Int))), (3, .int (zI (cnB (agP (aWd a) x1) (wM (aWd a)) : Int))), (4, .int (zI (wN (aWd a) : Int))), (5, .int (zI (wM (aWd a) : Int)))] := by exact hl
                      refine lv_goto (tgt := 132) hx hb dX4_again_206 (by decide) ?_
                      exact ihB (wM (aWd a) - (z + 1)) (by omega) H locs ls ⟨(z + 1), S_30, ⟨by omega, rfl, by rw [agF, if_pos hag]; exact hOm, fun k hk => ⟨fun q0 q5 => ((htk k hk).1 q5).trans ((hkk k hk).1 q0 q5), fun q1 q2 q4 q6 => ((htk k hk).2.1 q6).trans ((hkk k hk).2.1 q1 q2 q4 q6), fun q3 => (htk k hk).2.2.trans ((hkk k hk).2.2 q3)⟩⟩, hG, (lv_sub hl [1, 2, 3, 4, 5, 0] rfl)⟩
              · refine lv_aload_n hx hb dX4_again_104 rfl (lv_at hl 0 rfl) ?_
                refine lv_bipush (v := zI (-7)) hx hb dX4_again_105 (by decide +kernel) ?_
                refine g_topz (y := -((7 : Nat) : Int)) (by decide) ?_
                refine m_ci (va_runV (As := [.int (zI (-((7 : Nat) : Int)))]) (rest := []) ⟨hx, hb, hml, hown, hts⟩ (metX4_no 7 (by decide)) (cwV 1 hts (lw_V q3427 q3429 qs43 q102 q3430) rfl rfl rfl (by decide +kernel) ⟨Nat.le_of_ble_eq_true rfl, Nat.le_of_ble_eq_true rfl⟩) (m_preV hG) rfl rfl hl.1 rfl (lv_room (Nat.le_of_ble_eq_true rfl)) dX4_again_107 ⟨Nat.le_of_ble_eq_true rfl, Nat.le_of_ble_eq_true rfl⟩) hG (fun r_31 S_32 H locs hp hG => ?_)
                obtain ⟨rfl, rfl⟩ := hp
                have hG : mW X mo ad (mNo S_8 7) s H locs := hG
                exact m_iret hx hb hr hlocks hG (hXr.noR 7 (by unfold opAgain; (repeat (first | rw [if_pos (by omega)] | rw [if_neg (by omega)])); simp only [Int.toNat_natCast, hbh]; all_goals (rw [if_pos (by omega)]))) ⟨Nat.le_of_ble_eq_true rfl, Nat.le_of_ble_eq_true rfl⟩ dX4_again_110
          · refine lv_aload_n hx hb dX4_again_53 rfl (lv_at hl 0 rfl) ?_
            refine lv_iconst (v := zI 2) hx hb dX4_again_54 (by decide +kernel) ?_
            refine lv_iload hx hb dX4_again_55 (lv_at hl 4 rfl) ?_
            refine m_ci (va_runV (As := [.int (zI 2), .int (zI (z : Int))]) (rest := []) ⟨hx, hb, hml, hown, hts⟩ (metX4_of 2 (m0 := z) (by omega)) (cwV 2 hts (lw_V q3467 q3469 qs47 q102 q3470) rfl rfl rfl (by decide +kernel) ⟨Nat.le_of_ble_eq_true rfl, Nat.le_of_ble_eq_true rfl⟩) (m_preV hG) rfl rfl hl.1 rfl (lv_room (Nat.le_of_ble_eq_true rfl)) dX4_again_57 ⟨Nat.le_of_ble_eq_true rfl, Nat.le_of_ble_eq_true rfl⟩) hG (fun r_33 S_34 H locs hp hG => ?_)
            obtain ⟨rfl, rfl⟩ := hp
            have hG : mW X mo ad S_8 s H locs := hG
            refine g_topz (y := (rOn (wRk (aWd a) z) : Int)) (hXr.o.on (m := z) (by omega)) ?_
            have hv12 := hA.w.rk (m := z) (by omega)
            refine lv_iload_n hx hb dX4_again_60 rfl (lv_at hl 1 rfl) ?_
            refine g_cne (tgt := 78) hx hb dX4_again_61 (by decide) (by omega) (fun h3 => ?_) (fun h3 => ?_)
            · have hl : lv_has ls 7 [(0, .ref mo), (1, .int (zI (x1 : Int))), (2, .int (zI (y1 : Int))), (3, .int (zI (cnB (agP (aWd a) x1) (z + 1) : Int))), (4, .int (zI (z : Int)))] := by rw [show ((cnB (agP (aWd a) x1) (z + 1) : Nat) : Int) = (cnB (agP (aWd a) x1) z : Int) from by rw [cnB, if_neg (by unfold agP; rw [decide_eq_false (by omega)]; exact nofun)]; rfl]; exact hl
              refine lv_iinc (v := zI ((z : Int) + 1 : Int)) (lv' := [(4, .int (zI ((z : Int) + 1 : Int))), (0, .ref mo), (1, .int (zI (x1 : Int))), (2, .int (zI (y1 : Int))), (3, .int (zI (cnB (agP (aWd a) x1) (z + 1) : Int)))]) hx hb dX4_again_78 hl (k := 4) rfl ((zI_add _ _).trans (congrArg zI (by omega))) (by decide) rfl (fun ls hl => ?_)
              have hl : lv_has ls 7 [(4, .int (zI ((z + 1 : Nat) : Int))), (0, .ref mo), (1, .int (zI (x1 : Int))), (2, .int (zI (y1 : Int))), (3, .int (zI (cnB (agP (aWd a) x1) (z + 1) : Int)))] := by exact hl
              refine lv_goto (tgt := 44) hx hb dX4_again_81 (by decide) ?_
              exact ihA (wM (aWd a) - (z + 1)) (by omega) H locs ls ⟨(z + 1), ⟨by omega, rfl⟩, hG, (lv_sub hl [1, 2, 3, 4, 0] rfl)⟩
            · refine lv_aload_n hx hb dX4_again_64 rfl (lv_at hl 0 rfl) ?_
              refine lv_bipush (v := zI 6) hx hb dX4_again_65 (by decide +kernel) ?_
              refine lv_iload hx hb dX4_again_67 (lv_at hl 4 rfl) ?_
              refine m_ci (va_runV (As := [.int (zI 6), .int (zI (z : Int))]) (rest := []) ⟨hx, hb, hml, hown, hts⟩ (metX4_of 6 (m0 := z) (by omega)) (cwV 2 hts (lw_V q3467 q3469 qs47 q102 q3470) rfl rfl rfl (by decide +kernel) ⟨Nat.le_of_ble_eq_true rfl, Nat.le_of_ble_eq_true rfl⟩) (m_preV hG) rfl rfl hl.1 rfl (lv_room (Nat.le_of_ble_eq_true rfl)) dX4_again_69 ⟨Nat.le_of_ble_eq_true rfl, Nat.le_of_ble_eq_true rfl⟩) hG (fun r_35 S_36 H locs hp hG => ?_)
              obtain ⟨rfl, rfl⟩ := hp
              have hG : mW X mo ad S_8 s H locs := hG
              refine g_topz (y := (bI (wSt (aWd a) z))) (hXr.o.st (m := z) (by omega)) ?_
              have hv13 : bI (wSt (aWd a) z) = 0 ∨ bI (wSt (aWd a) z) = 1 := by cases wSt (aWd a) z <;> simp [bI]
              refine g_ne (tgt := 78) hx hb dX4_again_72 (by decide) (by omega) (fun h4 => ?_) (fun h4 => ?_)
              · have hl : lv_has ls 7 [(0, .ref mo), (1, .int (zI (x1 : Int))), (2, .int (zI (y1 : Int))), (3, .int (zI (cnB (agP (aWd a) x1) (z + 1) : Int))), (4, .int (zI (z : Int)))] := by rw [show ((cnB (agP (aWd a) x1) (z + 1) : Nat) : Int) = (cnB (agP (aWd a) x1) z : Int) from by rw [cnB, if_neg (by unfold agP; rw [show wSt (aWd a) z = true from by cases hst : wSt (aWd a) z with | true => rfl | false => (rw [hst] at h4; exact absurd rfl h4)]; exact fun q => by rw [Bool.not_true, Bool.and_false] at q; cases q)]; rfl]; exact hl
                refine lv_iinc (v := zI ((z : Int) + 1 : Int)) (lv' := [(4, .int (zI ((z : Int) + 1 : Int))), (0, .ref mo), (1, .int (zI (x1 : Int))), (2, .int (zI (y1 : Int))), (3, .int (zI (cnB (agP (aWd a) x1) (z + 1) : Int)))]) hx hb dX4_again_78 hl (k := 4) rfl ((zI_add _ _).trans (congrArg zI (by omega))) (by decide) rfl (fun ls hl => ?_)
                have hl : lv_has ls 7 [(4, .int (zI ((z + 1 : Nat) : Int))), (0, .ref mo), (1, .int (zI (x1 : Int))), (2, .int (zI (y1 : Int))), (3, .int (zI (cnB (agP (aWd a) x1) (z + 1) : Int)))] := by exact hl
                refine lv_goto (tgt := 44) hx hb dX4_again_81 (by decide) ?_
                exact ihA (wM (aWd a) - (z + 1)) (by omega) H locs ls ⟨(z + 1), ⟨by omega, rfl⟩, hG, (lv_sub hl [1, 2, 3, 4, 0] rfl)⟩
              · refine lv_iinc (v := zI ((cnB (agP (aWd a) x1) z : Int) + 1 : Int)) (lv' := [(3, .int (zI ((cnB (agP (aWd a) x1) z : Int) + 1 : Int))), (0, .ref mo), (1, .int (zI (x1 : Int))), (2, .int (zI (y1 : Int))), (4, .int (zI (z : Int)))]) hx hb dX4_again_75 hl (k := 3) rfl ((zI_add _ _).trans (congrArg zI (by omega))) (by decide) rfl (fun ls hl => ?_)
                have hl : lv_has ls 7 [(3, .int (zI (cnB (agP (aWd a) x1) (z + 1) : Int))), (0, .ref mo), (1, .int (zI (x1 : Int))), (2, .int (zI (y1 : Int))), (4, .int (zI (z : Int)))] := by rw [show ((cnB (agP (aWd a) x1) (z + 1) : Nat) : Int) = (cnB (agP (aWd a) x1) z : Int) + 1 from by rw [cnB, if_pos (by unfold agP; rw [decide_eq_true (by omega), show wSt (aWd a) z = false from bI_0.mp h4]; rfl)]; rfl]; exact hl
                refine lv_iinc (v := zI ((z : Int) + 1 : Int)) (lv' := [(4, .int (zI ((z : Int) + 1 : Int))), (3, .int (zI (cnB (agP (aWd a) x1) (z + 1) : Int))), (0, .ref mo), (1, .int (zI (x1 : Int))), (2, .int (zI (y1 : Int)))]) hx hb dX4_again_78 hl (k := 4) rfl ((zI_add _ _).trans (congrArg zI (by omega))) (by decide) rfl (fun ls hl => ?_)
                have hl : lv_has ls 7 [(4, .int (zI ((z + 1 : Nat) : Int))), (3, .int (zI (cnB (agP (aWd a) x1) (z + 1) : Int))), (0, .ref mo), (1, .int (zI (x1 : Int))), (2, .int (zI (y1 : Int)))] := by exact hl
                refine lv_goto (tgt := 44) hx hb dX4_again_81 (by decide) ?_
                exact ihA (wM (aWd a) - (z + 1)) (by omega) H locs ls ⟨(z + 1), ⟨by omega, rfl⟩, hG, (lv_sub hl [2, 3, 4, 1, 0] rfl)⟩
        · exfalso; omega
      · have hln := (beh_anc hA.w.fo n y1 _ hbh).1 n (Nat.le_refl n)
        refine g_topz (x := oI (some n)) (y := (n : Int)) rfl ?_
        refine lv_iconst (v := zI (-1)) hx hb dX4_again_28 (by decide +kernel) ?_
        refine g_ceq (tgt := 39) hx hb dX4_again_29 (by decide) (by omega) (fun h6 => ?_) (fun h6 => ?_)
        · exfalso; omega
        · refine lv_aload_n hx hb dX4_again_32 rfl (lv_at hl 0 rfl) ?_
          refine lv_bipush (v := zI (-6)) hx hb dX4_again_33 (by decide +kernel) ?_
          refine g_topz (y := -((6 : Nat) : Int)) (by decide) ?_
          refine m_ci (va_runV (As := [.int (zI (-((6 : Nat) : Int)))]) (rest := []) ⟨hx, hb, hml, hown, hts⟩ (metX4_no 6 (by decide)) (cwV 1 hts (lw_V q3427 q3429 qs43 q102 q3430) rfl rfl rfl (by decide +kernel) ⟨Nat.le_of_ble_eq_true rfl, Nat.le_of_ble_eq_true rfl⟩) (m_preV hG) rfl rfl hl.1 rfl (lv_room (Nat.le_of_ble_eq_true rfl)) dX4_again_35 ⟨Nat.le_of_ble_eq_true rfl, Nat.le_of_ble_eq_true rfl⟩) hG (fun r_37 S_38 H locs hp hG => ?_)
          obtain ⟨rfl, rfl⟩ := hp
          have hG : mW X mo ad (mNo S_8 6) s H locs := hG
          exact m_iret hx hb hr hlocks hG ((hX.real hre).noR 6 (by unfold opAgain; (repeat (first | rw [if_pos (by omega)] | rw [if_neg (by omega)])); simp only [Int.toNat_natCast, hbh])) ⟨Nat.le_of_ble_eq_true rfl, Nat.le_of_ble_eq_true rfl⟩ dX4_again_38
    · refine lv_aload_n hx hb dX4_again_16 rfl (lv_at hl 0 rfl) ?_
      refine lv_iconst (v := zI (-1)) hx hb dX4_again_17 (by decide +kernel) ?_
      refine g_topz (y := -((1 : Nat) : Int)) (by decide) ?_
      refine m_ci (va_runV (As := [.int (zI (-((1 : Nat) : Int)))]) (rest := []) ⟨hx, hb, hml, hown, hts⟩ (metX4_no 1 (by decide)) (cwV 1 hts (lw_V q3427 q3429 qs43 q102 q3430) rfl rfl rfl (by decide +kernel) ⟨Nat.le_of_ble_eq_true rfl, Nat.le_of_ble_eq_true rfl⟩) (m_preV hG) rfl rfl hl.1 rfl (lv_room (Nat.le_of_ble_eq_true rfl)) dX4_again_18 ⟨Nat.le_of_ble_eq_true rfl, Nat.le_of_ble_eq_true rfl⟩) hG (fun r_39 S_40 H locs hp hG => ?_)
      obtain ⟨rfl, rfl⟩ := hp
      have hG : mW X mo ad (mNo S 1) s H locs := hG
      exact m_iret hx hb hr hlocks hG (by first | (exfalso; omega) | exact (hX.noR 1 (by unfold opAgain; all_goals ((repeat (first | rw [if_pos (by omega)] | rw [if_neg (by omega)])) <;> rfl)))) ⟨Nat.le_of_ble_eq_true rfl, Nat.le_of_ble_eq_true rfl⟩ dX4_again_21

