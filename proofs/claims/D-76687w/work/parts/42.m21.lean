set_option maxRecDepth 100000
def shR (v : aW) (x : aSh) : aSh := match x with
  | some (.inl m) => if m < wM v then some (.inl m) else none
  | y => y
def aShR (a : aS) (v : aW) (i : Nat) : aS := ((v, aIm a), ((fun s => if s < i then shR v (aSv a s) else aSv a s), aRf a), a.2.2)
def opRestore (a : aS) : Int × aS := match aIm a with
  | none => aNoR a 6
  | some v => ((wM v : Nat), aShR a v 8)
theorem mX.rest {S T : mS} {a : aS} {v : aW} (h : mX S a) (k : aOK a) (hv : aIm a = some v) (e1 : ∀ k, k ≠ 0 → k ≠ 5 → k ≠ 8 → T.1 k = S.1 k) (e2 : ∀ k, k ≠ 1 → k ≠ 2 → k ≠ 6 → k ≠ 7 → T.2.1 k = S.2.1 k) (e3 : ∀ k, k ≠ 3 → T.2.2 k = S.2.2 k) (g : T.1 0 = S.1 17 ∧ T.1 5 = S.1 21 ∧ T.1 8 = S.1 24) (f : (∀ j, j < 16 → T.2.1 1 j = S.2.1 18 j ∧ T.2.1 2 j = S.2.1 19 j) ∧ (∀ j, j < 384 → T.2.2 3 j = S.2.2 20 j) ∧ (∀ j, j < 112 → T.2.1 6 j = S.2.1 22 j) ∧ ∀ j, j < 3 → T.2.1 7 j = S.2.1 23 j) : mXk T (aShR a v 0) 0 := by
  have kv := k.1.2 v hv
  have hi := h.2.1
  rw [hv] at hi
  obtain ⟨i1, ⟨i2, i3, i4⟩, i5, i6, i7, i8, i9⟩ := hi
  have hn := kv.n
  have hM := kv.m
  show mOk T v 0 ∧ mI T (aIm a) ∧ (∀ s, s < 8 → mSh T s (if s < 0 then shR v (aSv a s) else aSv a s)) ∧ (∀ j, j < 8 → T.2.1 15 j = aRf a j) ∧ T.1 12 = aFa a ∧ mT T (aTr a)
  refine ⟨⟨⟨g.1.trans i2, g.2.1.trans i3, (congrArg zI g.2.2).trans i4⟩, ⟨fun r hr => ⟨(f.1 r (by omega)).1.trans (i5 r hr).1, (f.1 r (by omega)).2.trans (i5 r hr).2.1, fun i hi => (f.2.1 _ (by have := (kv.tx hr).1; omega)).trans ((i5 r hr).2.2 i hi)⟩, (f.2.2.2 0 (by decide)).trans i7⟩, fun r hr => by omega, fun m hm => ⟨(f.2.2.1 _ (by omega)).trans (i6 m hm).1, (f.2.2.1 _ (by omega)).trans (i6 m hm).2.1, (f.2.2.1 _ (by omega)).trans (i6 m hm).2.2.1, (f.2.2.1 _ (by omega)).trans (i6 m hm).2.2.2.1, (f.2.2.1 _ (by omega)).trans (i6 m hm).2.2.2.2.1, (f.2.2.1 _ (by omega)).trans (i6 m hm).2.2.2.2.2.1, (f.2.2.1 _ (by omega)).trans (i6 m hm).2.2.2.2.2.2⟩, (f.2.2.2 1 (by decide)).trans i8, (f.2.2.2 2 (by decide)).trans i9⟩, h.2.1.cg ⟨⟨e1 16 (by decide) (by decide) (by decide), e1 17 (by decide) (by decide) (by decide), e1 21 (by decide) (by decide) (by decide), e1 24 (by decide) (by decide) (by decide)⟩, ⟨e2 18 (by decide) (by decide) (by decide) (by decide), e2 19 (by decide) (by decide) (by decide) (by decide), e2 22 (by decide) (by decide) (by decide) (by decide), e2 23 (by decide) (by decide) (by decide) (by decide)⟩, e3 20 (by decide)⟩, fun s hs => ?_, fun j hj => (congrFun (e2 15 (by decide) (by decide) (by decide) (by decide)) j).trans (h.2.2.2.1 j hj), (e1 12 (by decide) (by decide) (by decide)).trans h.2.2.2.2.1, h.2.2.2.2.2.cg ⟨e1 13 (by decide) (by decide) (by decide), e2 14 (by decide) (by decide) (by decide) (by decide)⟩⟩
  rw [if_neg (by omega)]
  exact (h.2.2.1 s hs).cg' ⟨e2 9 (by decide) (by decide) (by decide) (by decide), e2 10 (by decide) (by decide) (by decide) (by decide), e3 11 (by decide)⟩
theorem mXk.sh {S T : mS} {a : aS} {v : aW} {i n : Nat} (h : mXk S (aShR a v i) n) (hi : T.1 = S.1) (ha : ∀ k, k ≠ 9 → T.2.1 k = S.2.1 k) (hl : T.2.2 = S.2.2) (ho : ∀ j, j ≠ i → T.2.1 9 j = S.2.1 9 j) (hs : mSh T i (shR v (aSv a i))) : mXk T (aShR a v (i + 1)) n := by
  obtain ⟨⟨h1, h2, h3, h4, h5, h6⟩, g1, g2, g3, g4, g5⟩ := h
  refine ⟨⟨by rw [hi]; exact h1, h2.cg ⟨ha 1 (by decide), ha 2 (by decide), ha 7 (by decide), by rw [hl]⟩, ?_, ?_, (congrFun (ha 7 (by decide)) 1).trans h5, (congrFun (ha 7 (by decide)) 2).trans h6⟩, g1.cg ⟨⟨by rw [hi], by rw [hi], by rw [hi], by rw [hi]⟩, ⟨ha 18 (by decide), ha 19 (by decide), ha 22 (by decide), ha 23 (by decide)⟩, by rw [hl]⟩, fun s hs8 => ?_, fun j hj => (congrFun (ha 15 (by decide)) j).trans (g3 j hj), (congrFun hi 12).trans g4, g5.cg ⟨congrFun hi 13, ha 14 (by decide)⟩⟩
  · unfold mCm; rw [ha 4 (by decide)]; exact h3
  · unfold mRk; rw [ha 6 (by decide)]; exact h4
  · show mSh T s (if s < i + 1 then shR v (aSv a s) else aSv a s)
    have q := g2 s hs8
    have q : mSh S s (if s < i then shR v (aSv a s) else aSv a s) := q
    by_cases hsi : s = i
    · subst hsi; rw [if_pos (by omega)]; exact hs
    · have e : (if s < i + 1 then shR v (aSv a s) else aSv a s) = (if s < i then shR v (aSv a s) else aSv a s) := by
        by_cases hl : s < i
        · rw [if_pos hl, if_pos (by omega)]
        · rw [if_neg hl, if_neg (by omega)]
      rw [e]
      rcases hx : (if s < i then shR v (aSv a s) else aSv a s) with _ | m | ⟨so, n, f⟩
      · rw [hx] at q; exact (ho s hsi).trans q
      · rw [hx] at q; exact (ho s hsi).trans q
      · rw [hx] at q; exact ⟨(ho s hsi).trans q.1, (congrFun (ha 10 (by decide)) s).trans q.2.1, fun j hj => by rw [hl]; exact q.2.2 j hj⟩
set_option maxHeartbeats 4000000 in
theorem metX4_restore {l : Launch} {X : gX} {mo : Nat} {ad : Nat → Nat} {S : mS} {a : aS} (hX : mX S a) (hA : aOK a) : Met l yX4_restore (ws_ yX4_restore cX4_restore 2 (some FieldType.int)) ({ frames := 5, cells := 0, slots := 0, locals := 122 }) (mP X mo ad S [.ref mo]) (mQi X mo ad (fun u T => u = zI (opRestore a).1 ∧ mX T (opRestore a).2)) 0 0 (mA mo ad) := by
  refine Met.m (by decide) (Nat.le_of_ble_eq_true rfl) ?_
  intro p e s m below meth c ls hx hb hr hts hown hlocks hml hG hl
  have hl : lv_has ls 2 [(0, .ref mo)] := hl
  have hNN := hA.w.n
  have hMM := hA.w.m
  rcases hv : aIm a with _ | v
  · have hi16 : S.1 16 = 0 := by have q := hX.2.1; rw [hv] at q; exact q
    refine lv_aload_n hx hb dX4_restore_0 rfl (lv_at hl 0 rfl) ?_
    refine m_get 16 (by decide) (v := .int (zI 0)) (congrArg (fun z => Value.int (zI z)) (show S.1 16 = 0 from hi16)) hx hb hts hown hG (hts _ q3312) dX4_restore_1 ?_
    refine g_ne (tgt := 14) hx hb dX4_restore_4 (by decide) (by decide) (fun h1 => ?_) (fun h1 => ?_)
    · exfalso; omega
    · refine lv_aload_n hx hb dX4_restore_7 rfl (lv_at hl 0 rfl) ?_
      refine lv_bipush (v := zI (-6)) hx hb dX4_restore_8 (by decide +kernel) ?_
      refine g_topz (y := -((6 : Nat) : Int)) (by decide) ?_
      refine m_ci (va_runV (As := [.int (zI (-((6 : Nat) : Int)))]) (rest := []) ⟨hx, hb, hml, hown, hts⟩ (metX4_no 6 (by decide)) (cwV 1 hts (lw_V q3427 q3429 qs43 q102 q3430) rfl rfl rfl (by decide +kernel) ⟨Nat.le_of_ble_eq_true rfl, Nat.le_of_ble_eq_true rfl⟩) (m_preV hG) rfl rfl hl.1 rfl (lv_room (Nat.le_of_ble_eq_true rfl)) dX4_restore_10 ⟨Nat.le_of_ble_eq_true rfl, Nat.le_of_ble_eq_true rfl⟩) hG (fun r_1 S_2 H locs hp hG => ?_)
      obtain ⟨rfl, rfl⟩ := hp
      have hG : mW X mo ad (mNo S 6) s H locs := hG
      exact m_iret hx hb hr hlocks hG (hX.noR 6 (by unfold opRestore; rw [hv])) ⟨Nat.le_of_ble_eq_true rfl, Nat.le_of_ble_eq_true rfl⟩ dX4_restore_13
  · have hq := hX.2.1
    rw [hv] at hq
    obtain ⟨i16, ⟨i17, i21, i24⟩, -⟩ := hq
    refine lv_aload_n hx hb dX4_restore_0 rfl (lv_at hl 0 rfl) ?_
    refine m_get 16 (by decide) (v := .int (zI 1)) (congrArg (fun z => Value.int (zI z)) (show S.1 16 = 1 from i16)) hx hb hts hown hG (hts _ q3312) dX4_restore_1 ?_
    refine g_ne (tgt := 14) hx hb dX4_restore_4 (by decide) (by decide) (fun h1 => ?_) (fun h1 => ?_)
    · refine lv_aload_n hx hb dX4_restore_14 rfl (lv_at hl 0 rfl) ?_
      refine lv_aload_n hx hb dX4_restore_15 rfl (lv_at hl 0 rfl) ?_
      refine m_get 17 (by decide) (v := .int (zI (S.1 17))) rfl hx hb hts hown hG (hts _ q3313) dX4_restore_16 ?_
      refine m_put 0 (by decide) rfl rfl (tyX4_ok 0 (by decide)) rfl rfl hx hb hts hown hG (hts _ q3296) dX4_restore_19 (fun H locs (hG : mW X mo ad (sI S 0 (S.1 17)) s H locs) => ?_)
      refine lv_aload_n hx hb dX4_restore_22 rfl (lv_at hl 0 rfl) ?_
      refine lv_aload_n hx hb dX4_restore_23 rfl (lv_at hl 0 rfl) ?_
      refine m_get 21 (by decide) (v := .int (zI ((sI S 0 (S.1 17)).1 21))) rfl hx hb hts hown hG (hts _ q3317) dX4_restore_24 ?_
      refine m_put 5 (by decide) rfl rfl (tyX4_ok 5 (by decide)) rfl rfl hx hb hts hown hG (hts _ q3301) dX4_restore_27 (fun H locs (hG : mW X mo ad (sI (sI S 0 (S.1 17)) 5 ((sI S 0 (S.1 17)).1 21)) s H locs) => ?_)
      refine lv_aload_n hx hb dX4_restore_30 rfl (lv_at hl 0 rfl) ?_
      refine lv_aload_n hx hb dX4_restore_31 rfl (lv_at hl 0 rfl) ?_
      refine m_get 24 (by decide) (v := .int (zI ((sI (sI S 0 (S.1 17)) 5 ((sI S 0 (S.1 17)).1 21)).1 24))) rfl hx hb hts hown hG (hts _ q3320) dX4_restore_32 ?_
      refine m_put 8 (by decide) rfl rfl (tyX4_ok 8 (by decide)) rfl rfl hx hb hts hown hG (hts _ q3304) dX4_restore_35 (fun H locs (hG : mW X mo ad (sI (sI (sI S 0 (S.1 17)) 5 ((sI S 0 (S.1 17)).1 21)) 8 ((sI (sI S 0 (S.1 17)) 5 ((sI S 0 (S.1 17)).1 21)).1 24)) s H locs) => ?_)
      refine lv_iconst (v := zI 0) hx hb dX4_restore_38 (by decide +kernel) ?_
      refine lv_istore_n (lv' := [(1, .int (zI 0)), (0, .ref mo)]) hx hb dX4_restore_39 rfl hl (by decide) rfl (fun ls hl => ?_)
      obtain ⟨B, hB⟩ : ∃ B, B = (sI (sI (sI S 0 (S.1 17)) 5 ((sI S 0 (S.1 17)).1 21)) 8 ((sI (sI S 0 (S.1 17)) 5 ((sI S 0 (S.1 17)).1 21)).1 24)) := ⟨_, rfl⟩
      have hG : mW X mo ad B s H locs := by rw [hB]; exact hG
      refine g_loop (fun mz H locs ls => ∃ (iA : Nat) (TA : mS), (iA ≤ 16 ∧ mz = 16 - iA ∧ TA.1 = B.1 ∧ (∀ k, k ≠ 1 → k ≠ 2 → TA.2.1 k = B.2.1 k) ∧ TA.2.2 = B.2.2 ∧ ∀ j, j < iA → TA.2.1 1 j = B.2.1 18 j ∧ TA.2.1 2 j = B.2.1 19 j) ∧ mW X mo ad TA s H locs ∧ lv_has ls 2 [(0, .ref mo), (1, .int (zI (iA : Int)))]) (16 - 0) ⟨0, B, ⟨by omega, rfl, rfl, fun _ _ _ => rfl, rfl, fun j hj => by omega⟩, hG, (lv_sub hl [1, 0] rfl)⟩ (fun mz ihA H locs ls hI => ?_)
      obtain ⟨iA, TA, ⟨hkA, hzA, hAI, hAA, hAL, hAE⟩, hG, hl⟩ := hI
      refine lv_iload_n hx hb dX4_restore_40 rfl (lv_at hl 1 rfl) ?_
      refine lv_bipush (v := zI 16) hx hb dX4_restore_41 (by decide +kernel) ?_
      refine g_cge (tgt := 76) hx hb dX4_restore_43 (by decide) (by omega) (fun hAb => ?_) (fun hAb => ?_)
      · have hiA : iA = 16 := by omega
        subst hiA
        refine lv_iconst (v := zI 0) hx hb dX4_restore_76 (by decide +kernel) ?_
        refine lv_istore_n (lv' := [(1, .int (zI 0)), (0, .ref mo)]) hx hb dX4_restore_77 rfl hl (by decide) rfl (fun ls hl => ?_)
        refine g_loop (fun mz H locs ls => ∃ (iB : Nat) (TB : mS), (iB ≤ 384 ∧ mz = 384 - iB ∧ TB.1 = TA.1 ∧ TB.2.1 = TA.2.1 ∧ (∀ k, k ≠ 3 → TB.2.2 k = TA.2.2 k) ∧ ∀ j, j < iB → TB.2.2 3 j = TA.2.2 20 j) ∧ mW X mo ad TB s H locs ∧ lv_has ls 2 [(0, .ref mo), (1, .int (zI (iB : Int)))]) (384 - 0) ⟨0, TA, ⟨by omega, rfl, rfl, rfl, fun _ _ => rfl, fun j hj => by omega⟩, hG, (lv_sub hl [1, 0] rfl)⟩ (fun mz ihB H locs ls hI => ?_)
        obtain ⟨iB, TB, ⟨hkB, hzB, hBI, hBA, hBO, hBE⟩, hG, hl⟩ := hI
        refine lv_iload_n hx hb dX4_restore_78 rfl (lv_at hl 1 rfl) ?_
        refine lv_sipush (v := zI 384) hx hb dX4_restore_79 (by decide +kernel) ?_
        refine g_cge (tgt := 103) hx hb dX4_restore_82 (by decide) (by omega) (fun hBb => ?_) (fun hBb => ?_)
        · have hiB : iB = 384 := by omega
          subst hiB
          refine lv_iconst (v := zI 0) hx hb dX4_restore_103 (by decide +kernel) ?_
          refine lv_istore_n (lv' := [(1, .int (zI 0)), (0, .ref mo)]) hx hb dX4_restore_104 rfl hl (by decide) rfl (fun ls hl => ?_)
          refine g_loop (fun mz H locs ls => ∃ (iC : Nat) (TC : mS), (iC ≤ 112 ∧ mz = 112 - iC ∧ TC.1 = TB.1 ∧ (∀ k, k ≠ 6 → TC.2.1 k = TB.2.1 k) ∧ TC.2.2 = TB.2.2 ∧ ∀ j, j < iC → TC.2.1 6 j = TB.2.1 22 j) ∧ mW X mo ad TC s H locs ∧ lv_has ls 2 [(0, .ref mo), (1, .int (zI (iC : Int)))]) (112 - 0) ⟨0, TB, ⟨by omega, rfl, rfl, fun _ _ => rfl, rfl, fun j hj => by omega⟩, hG, (lv_sub hl [1, 0] rfl)⟩ (fun mz ihC H locs ls hI => ?_)
          obtain ⟨iC, TC, ⟨hkC, hzC, hCI, hCA, hCL, hCE⟩, hG, hl⟩ := hI
          refine lv_iload_n hx hb dX4_restore_105 rfl (lv_at hl 1 rfl) ?_
          refine lv_bipush (v := zI 112) hx hb dX4_restore_106 (by decide +kernel) ?_
          refine g_cge (tgt := 129) hx hb dX4_restore_108 (by decide) (by omega) (fun hCb => ?_) (fun hCb => ?_)
          · have hiC : iC = 112 := by omega
            subst hiC
            refine lv_iconst (v := zI 0) hx hb dX4_restore_129 (by decide +kernel) ?_
            refine lv_istore_n (lv' := [(1, .int (zI 0)), (0, .ref mo)]) hx hb dX4_restore_130 rfl hl (by decide) rfl (fun ls hl => ?_)
            refine g_loop (fun mz H locs ls => ∃ (iD : Nat) (TD : mS), (iD ≤ 3 ∧ mz = 3 - iD ∧ TD.1 = TC.1 ∧ (∀ k, k ≠ 7 → TD.2.1 k = TC.2.1 k) ∧ TD.2.2 = TC.2.2 ∧ ∀ j, j < iD → TD.2.1 7 j = TC.2.1 23 j) ∧ mW X mo ad TD s H locs ∧ lv_has ls 2 [(0, .ref mo), (1, .int (zI (iD : Int)))]) (3 - 0) ⟨0, TC, ⟨by omega, rfl, rfl, fun _ _ => rfl, rfl, fun j hj => by omega⟩, hG, (lv_sub hl [1, 0] rfl)⟩ (fun mz ihD H locs ls hI => ?_)
            obtain ⟨iD, TD, ⟨hkD, hzD, hDI, hDA, hDL, hDE⟩, hG, hl⟩ := hI
            refine lv_iload_n hx hb dX4_restore_131 rfl (lv_at hl 1 rfl) ?_
            refine lv_iconst (v := zI 3) hx hb dX4_restore_132 (by decide +kernel) ?_
            refine g_cge (tgt := 154) hx hb dX4_restore_133 (by decide) (by omega) (fun hDb => ?_) (fun hDb => ?_)
            · have hiD : iD = 3 := by omega
              subst hiD
              have eI : TD.1 = B.1 := hDI.trans (hCI.trans (hBI.trans hAI))
              have b1 : ∀ k, k ≠ 0 → k ≠ 5 → k ≠ 8 → B.1 k = S.1 k := fun k q1 q2 q3 => by rw [hB, sI_n q3, sI_n q2, sI_n q1]
              have b2 : B.2 = S.2 := by rw [hB]; rfl
              have hX0 : mXk TD (aShR a v 0) 0 := hX.rest hA hv (fun k q1 q2 q3 => (congrFun eI k).trans (b1 k q1 q2 q3)) (fun k q1 q2 q3 q4 => (hDA k q4).trans ((hCA k q3).trans ((congrFun hBA k).trans ((hAA k q1 q2).trans (by rw [b2]))))) (fun k q => (congrFun hDL k).trans ((congrFun hCL k).trans ((hBO k q).trans ((congrFun hAL k).trans (by rw [b2]))))) (by rw [eI, hB]; exact ⟨rfl, rfl, rfl⟩) ⟨fun j hj => ⟨(congrFun (hDA 1 (by decide)) j).trans ((congrFun (hCA 1 (by decide)) j).trans ((congrFun (congrFun hBA 1) j).trans ((hAE j hj).1.trans (by rw [b2])))), (congrFun (hDA 2 (by decide)) j).trans ((congrFun (hCA 2 (by decide)) j).trans ((congrFun (congrFun hBA 2) j).trans ((hAE j hj).2.trans (by rw [b2]))))⟩, fun j hj => (congrFun (congrFun hDL 3) j).trans ((congrFun (congrFun hCL 3) j).trans ((hBE j hj).trans ((congrFun (congrFun hAL 20) j).trans (by rw [b2])))), fun j hj => (congrFun (hDA 6 (by decide)) j).trans ((hCE j hj).trans ((congrFun (congrFun hBA 22) j).trans ((congrFun (hAA 22 (by decide) (by decide)) j).trans (by rw [b2])))), fun j hj => (hDE j hj).trans ((congrFun (hCA 23 (by decide)) j).trans ((congrFun (congrFun hBA 23) j).trans ((congrFun (hAA 23 (by decide) (by decide)) j).trans (by rw [b2]))))⟩
              have hKv := hA.1.2 v hv
              have hNv := hKv.n
              have hMv := hKv.m
              refine lv_iconst (v := zI 0) hx hb dX4_restore_154 (by decide +kernel) ?_
              refine lv_istore_n (lv' := [(1, .int (zI 0)), (0, .ref mo)]) hx hb dX4_restore_155 rfl hl (by decide) rfl (fun ls hl => ?_)
              refine g_loop (fun mz H locs ls => ∃ (k : Nat) (T : mS), (k ≤ wN v ∧ mz = wN v - k ∧ mXk T (aShR a v 0) k) ∧ mW X mo ad T s H locs ∧ lv_has ls 2 [(0, .ref mo), (1, .int (zI (k : Int)))]) (wN v - 0) ⟨0, TD, ⟨Nat.zero_le _, rfl, hX0⟩, hG, (lv_sub hl [1, 0] rfl)⟩ (fun mz ihL H locs ls hI => ?_)
              obtain ⟨k, T, ⟨hk, hmz, hXk⟩, hG, hl⟩ := hI
              refine lv_iload_n hx hb dX4_restore_156 rfl (lv_at hl 1 rfl) ?_
              refine lv_aload_n hx hb dX4_restore_157 rfl (lv_at hl 0 rfl) ?_
              refine m_get 0 (by decide) (v := .int (zI (wN v : Int))) (congrArg (fun z => Value.int (zI z)) (show T.1 0 = (wN v : Int) from hXk.1.1.1)) hx hb hts hown hG (hts _ q3296) dX4_restore_158 ?_
              refine g_cge (tgt := 175) hx hb dX4_restore_161 (by decide) (by omega) (fun h2 => ?_) (fun h2 => ?_)
              · have hxk : k = wN v := by omega
                subst hxk
                refine lv_iconst (v := zI 0) hx hb dX4_restore_175 (by decide +kernel) ?_
                refine lv_istore_n (lv' := [(1, .int (zI 0)), (0, .ref mo)]) hx hb dX4_restore_176 rfl hl (by decide) rfl (fun ls hl => ?_)
                refine g_loop (fun mz H locs ls => ∃ (i : Nat) (T : mS), (i ≤ 8 ∧ mz = 8 - i ∧ mXk T (aShR a v i) (wN v)) ∧ mW X mo ad T s H locs ∧ lv_has ls 2 [(0, .ref mo), (1, .int (zI (i : Int)))]) (8 - 0) ⟨0, T, ⟨by omega, rfl, hXk⟩, hG, (lv_sub hl [1, 0] rfl)⟩ (fun mz ihS H locs ls hI => ?_)
                obtain ⟨i, T, ⟨hi, hmz, hXs⟩, hG, hl⟩ := hI
                refine lv_iload_n hx hb dX4_restore_177 rfl (lv_at hl 1 rfl) ?_
                refine lv_bipush (v := zI 8) hx hb dX4_restore_178 (by decide +kernel) ?_
                refine g_cge (tgt := 217) hx hb dX4_restore_180 (by decide) (by omega) (fun h3 => ?_) (fun h3 => ?_)
                · have hi8 : i = 8 := by omega
                  subst hi8
                  refine lv_aload_n hx hb dX4_restore_217 rfl (lv_at hl 0 rfl) ?_
                  refine m_get 5 (by decide) (v := .int (zI (wM v : Int))) (congrArg (fun z => Value.int (zI z)) (show T.1 5 = (wM v : Int) from hXs.1.1.2.1)) hx hb hts hown hG (hts _ q3301) dX4_restore_218 ?_
                  exact m_iret hx hb hr hlocks hG (⟨by unfold opRestore; rw [hv], by unfold opRestore; rw [hv]; exact hXs⟩) ⟨Nat.le_of_ble_eq_true rfl, Nat.le_of_ble_eq_true rfl⟩ dX4_restore_221
                · have hsi := hXs.2.2.1 i (by omega)
                  have hsi : mSh T i (aSv a i) := (show mSh T i (if i < i then shR v (aSv a i) else aSv a i) = mSh T i (aSv a i) by rw [if_neg (by omega)]) ▸ hsi
                  have hok := hA.2.1 i
                  rcases hsv : aSv a i with _ | m0 | ⟨so, n0, f0⟩
                  · rw [hsv] at hsi hok
                    have hsi : T.2.1 9 i = -1 := hsi
                    refine lv_aload_n hx hb dX4_restore_183 rfl (lv_at hl 0 rfl) ?_
                    refine lv_iload_n hx hb dX4_restore_184 rfl (lv_at hl 1 rfl) ?_
                    refine m_ci (va_runV (As := [.int (zI (i : Int))]) (rest := []) ⟨hx, hb, hml, hown, hts⟩ (metX4_isRow (k := i) (by omega)) (cwV 1 hts (lw_V q3439 q3441 qs45 q102 q3442) rfl rfl rfl (by decide +kernel) ⟨Nat.le_of_ble_eq_true rfl, Nat.le_of_ble_eq_true rfl⟩) (m_preV hG) rfl rfl hl.1 rfl (lv_room (Nat.le_of_ble_eq_true rfl)) dX4_restore_185 ⟨Nat.le_of_ble_eq_true rfl, Nat.le_of_ble_eq_true rfl⟩) hG (fun r_3 S_4 H locs hp hG => ?_)
                    obtain ⟨b1, rfl, hb1, rfl⟩ := hp
                    have hG : mW X mo ad T s H locs := hG
                    refine g_ne (tgt := 211) hx hb dX4_restore_188 (by decide) (by omega) (fun h4 => ?_) (fun h4 => ?_)
                    · exfalso; omega
                    · refine lv_aload_n hx hb dX4_restore_191 rfl (lv_at hl 0 rfl) ?_
                      refine m_get 9 (by decide) (v := .ref (ad 9)) rfl hx hb hts hown hG (hts _ q3305) dX4_restore_192 ?_
                      refine lv_iload_n hx hb dX4_restore_195 rfl (lv_at hl 1 rfl) ?_
                      refine m_iald 9 rfl rfl (by decide) i (v := -1) ⟨by omega, by show _ < 8; omega⟩ (show T.2.1 9 i = -1 from hsi) hx hb hG dX4_restore_196 ?_
                      refine lv_aload_n hx hb dX4_restore_197 rfl (lv_at hl 0 rfl) ?_
                      refine m_get 5 (by decide) (v := .int (zI (wM v : Int))) (congrArg (fun z => Value.int (zI z)) (show T.1 5 = (wM v : Int) from hXs.1.1.2.1)) hx hb hts hown hG (hts _ q3301) dX4_restore_198 ?_
                      refine g_clt (tgt := 211) hx hb dX4_restore_201 (by decide) (by omega) (fun h5 => ?_) (fun h5 => ?_)
                      · refine lv_iinc (v := zI ((i : Int) + 1 : Int)) (lv' := [(1, .int (zI ((i : Int) + 1 : Int))), (0, .ref mo)]) hx hb dX4_restore_211 hl (k := 1) rfl ((zI_add _ _).trans (congrArg zI (by omega))) (by decide) rfl (fun ls hl => ?_)
                        refine lv_goto (tgt := 177) hx hb dX4_restore_214 (by decide) ?_
                        exact ihS (8 - (i + 1)) (by omega) H locs ls ⟨(i + 1), T, ⟨by omega, rfl, hXs.sh rfl (fun k hk => rfl) rfl (fun j hj => rfl) (by rw [hsv]; exact hsi)⟩, hG, (lv_sub hl [1, 0] rfl)⟩
                      · exfalso; omega
                  · rw [hsv] at hsi hok
                    have hsi : T.2.1 9 i = (m0 : Nat) := hsi
                    have hok : m0 < wM (aWd a) := hok
                    have hMM2 := hA.w.m
                    refine lv_aload_n hx hb dX4_restore_183 rfl (lv_at hl 0 rfl) ?_
                    refine lv_iload_n hx hb dX4_restore_184 rfl (lv_at hl 1 rfl) ?_
                    refine m_ci (va_runV (As := [.int (zI (i : Int))]) (rest := []) ⟨hx, hb, hml, hown, hts⟩ (metX4_isRow (k := i) (by omega)) (cwV 1 hts (lw_V q3439 q3441 qs45 q102 q3442) rfl rfl rfl (by decide +kernel) ⟨Nat.le_of_ble_eq_true rfl, Nat.le_of_ble_eq_true rfl⟩) (m_preV hG) rfl rfl hl.1 rfl (lv_room (Nat.le_of_ble_eq_true rfl)) dX4_restore_185 ⟨Nat.le_of_ble_eq_true rfl, Nat.le_of_ble_eq_true rfl⟩) hG (fun r_5 S_6 H locs hp hG => ?_)
                    obtain ⟨b1, rfl, hb1, rfl⟩ := hp
                    have hG : mW X mo ad T s H locs := hG
                    refine g_ne (tgt := 211) hx hb dX4_restore_188 (by decide) (by omega) (fun h4 => ?_) (fun h4 => ?_)
                    · exfalso; omega
                    · refine lv_aload_n hx hb dX4_restore_191 rfl (lv_at hl 0 rfl) ?_
                      refine m_get 9 (by decide) (v := .ref (ad 9)) rfl hx hb hts hown hG (hts _ q3305) dX4_restore_192 ?_
                      refine lv_iload_n hx hb dX4_restore_195 rfl (lv_at hl 1 rfl) ?_
                      refine m_iald 9 rfl rfl (by decide) i (v := (m0 : Int)) ⟨by omega, by show _ < 8; omega⟩ (show T.2.1 9 i = (m0 : Int) from hsi) hx hb hG dX4_restore_196 ?_
                      refine lv_aload_n hx hb dX4_restore_197 rfl (lv_at hl 0 rfl) ?_
                      refine m_get 5 (by decide) (v := .int (zI (wM v : Int))) (congrArg (fun z => Value.int (zI z)) (show T.1 5 = (wM v : Int) from hXs.1.1.2.1)) hx hb hts hown hG (hts _ q3301) dX4_restore_198 ?_
                      refine g_clt (tgt := 211) hx hb dX4_restore_201 (by decide) (by omega) (fun h5 => ?_) (fun h5 => ?_)
                      · refine lv_iinc (v := zI ((i : Int) + 1 : Int)) (lv' := [(1, .int (zI ((i : Int) + 1 : Int))), (0, .ref mo)]) hx hb dX4_restore_211 hl (k := 1) rfl ((zI_add _ _).trans (congrArg zI (by omega))) (by decide) rfl (fun ls hl => ?_)
                        refine lv_goto (tgt := 177) hx hb dX4_restore_214 (by decide) ?_
                        exact ihS (8 - (i + 1)) (by omega) H locs ls ⟨(i + 1), T, ⟨by omega, rfl, hXs.sh rfl (fun k hk => rfl) rfl (fun j hj => rfl) (by rw [hsv]; show mSh T i (if m0 < wM v then some (.inl m0) else none); rw [if_pos (by omega)]; exact hsi)⟩, hG, (lv_sub hl [1, 0] rfl)⟩
                      · refine lv_aload_n hx hb dX4_restore_204 rfl (lv_at hl 0 rfl) ?_
                        refine m_get 9 (by decide) (v := .ref (ad 9)) rfl hx hb hts hown hG (hts _ q3305) dX4_restore_205 ?_
                        refine lv_iload_n hx hb dX4_restore_208 rfl (lv_at hl 1 rfl) ?_
                        refine lv_iconst (v := zI (-1)) hx hb dX4_restore_209 (by decide +kernel) ?_
                        refine m_iast 9 rfl rfl (by decide) i ⟨by omega, by show _ < 8; omega⟩ hx hb hG dX4_restore_210 (fun H locs (hG : mW X mo ad (sA T 9 i (-1)) s H locs) => ?_)
                        refine lv_iinc (v := zI ((i : Int) + 1 : Int)) (lv' := [(1, .int (zI ((i : Int) + 1 : Int))), (0, .ref mo)]) hx hb dX4_restore_211 hl (k := 1) rfl ((zI_add _ _).trans (congrArg zI (by omega))) (by decide) rfl (fun ls hl => ?_)
                        refine lv_goto (tgt := 177) hx hb dX4_restore_214 (by decide) ?_
                        exact ihS (8 - (i + 1)) (by omega) H locs ls ⟨(i + 1), (sA T 9 i (-1)), ⟨by omega, rfl, hXs.sh rfl (fun k hk => sA_o hk) rfl (fun j hj => sA_n hj) (by rw [hsv]; show mSh _ i (if m0 < wM v then some (.inl m0) else none); rw [if_neg (by omega)]; exact sA_s)⟩, hG, (lv_sub hl [1, 0] rfl)⟩
                  · rw [hsv] at hsi hok
                    have hs9 : T.2.1 9 i = 100 + (so : Nat) := hsi.1
                    have hok : so ≤ 3 ∧ n0 ≤ 160 := hok
                    refine lv_aload_n hx hb dX4_restore_183 rfl (lv_at hl 0 rfl) ?_
                    refine lv_iload_n hx hb dX4_restore_184 rfl (lv_at hl 1 rfl) ?_
                    refine m_ci (va_runV (As := [.int (zI (i : Int))]) (rest := []) ⟨hx, hb, hml, hown, hts⟩ (metX4_isRow (k := i) (by omega)) (cwV 1 hts (lw_V q3439 q3441 qs45 q102 q3442) rfl rfl rfl (by decide +kernel) ⟨Nat.le_of_ble_eq_true rfl, Nat.le_of_ble_eq_true rfl⟩) (m_preV hG) rfl rfl hl.1 rfl (lv_room (Nat.le_of_ble_eq_true rfl)) dX4_restore_185 ⟨Nat.le_of_ble_eq_true rfl, Nat.le_of_ble_eq_true rfl⟩) hG (fun r_7 S_8 H locs hp hG => ?_)
                    obtain ⟨b1, rfl, hb1, rfl⟩ := hp
                    have hG : mW X mo ad T s H locs := hG
                    refine g_ne (tgt := 211) hx hb dX4_restore_188 (by decide) (by omega) (fun h4 => ?_) (fun h4 => ?_)
                    · refine lv_iinc (v := zI ((i : Int) + 1 : Int)) (lv' := [(1, .int (zI ((i : Int) + 1 : Int))), (0, .ref mo)]) hx hb dX4_restore_211 hl (k := 1) rfl ((zI_add _ _).trans (congrArg zI (by omega))) (by decide) rfl (fun ls hl => ?_)
                      refine lv_goto (tgt := 177) hx hb dX4_restore_214 (by decide) ?_
                      exact ihS (8 - (i + 1)) (by omega) H locs ls ⟨(i + 1), T, ⟨by omega, rfl, hXs.sh rfl (fun k hk => rfl) rfl (fun j hj => rfl) (by rw [hsv]; exact hsi)⟩, hG, (lv_sub hl [1, 0] rfl)⟩
                    · exfalso; omega
              · refine lv_aload_n hx hb dX4_restore_164 rfl (lv_at hl 0 rfl) ?_
                refine lv_iload_n hx hb dX4_restore_165 rfl (lv_at hl 1 rfl) ?_
                refine m_cv (va_runV (As := [.int (zI (k : Int))]) (rest := []) ⟨hx, hb, hml, hown, hts⟩ (metX4_learns (w := v) hXk.1.2.1 hKv (by omega)) (cwV 1 hts (lw_V q3497 q3499 qs52 q102 q3500) rfl rfl rfl (by decide +kernel) ⟨Nat.le_of_ble_eq_true rfl, Nat.le_of_ble_eq_true rfl⟩) (m_preV hG) rfl rfl hl.1 rfl (lv_room (Nat.le_of_ble_eq_true rfl)) dX4_restore_166 ⟨Nat.le_of_ble_eq_true rfl, Nat.le_of_ble_eq_true rfl⟩) hG (fun S_10 H locs hp hG => ?_)
                obtain ⟨hb4, hoff, hon⟩ := hp
                have hG : mW X mo ad S_10 s H locs := hG
                refine lv_iinc (v := zI ((k : Int) + 1 : Int)) (lv' := [(1, .int (zI ((k : Int) + 1 : Int))), (0, .ref mo)]) hx hb dX4_restore_169 hl (k := 1) rfl ((zI_add _ _).trans (congrArg zI (by omega))) (by decide) rfl (fun ls hl => ?_)
                refine lv_goto (tgt := 156) hx hb dX4_restore_172 (by decide) ?_
                exact ihL (wN v - (k + 1)) (by omega) H locs ls ⟨(k + 1), S_10, ⟨by omega, rfl, hXk.b4 hb4 hoff hon⟩, hG, (lv_sub hl [1, 0] rfl)⟩
            · refine lv_aload_n hx hb dX4_restore_136 rfl (lv_at hl 0 rfl) ?_
              refine m_get 7 (by decide) (v := .ref (ad 7)) rfl hx hb hts hown hG (hts _ q3303) dX4_restore_137 ?_
              refine lv_iload_n hx hb dX4_restore_140 rfl (lv_at hl 1 rfl) ?_
              refine lv_aload_n hx hb dX4_restore_141 rfl (lv_at hl 0 rfl) ?_
              refine m_get 23 (by decide) (v := .ref (ad 23)) rfl hx hb hts hown hG (hts _ q3319) dX4_restore_142 ?_
              refine lv_iload_n hx hb dX4_restore_145 rfl (lv_at hl 1 rfl) ?_
              refine m_iald 23 rfl rfl (by decide) iD (v := TD.2.1 23 iD) ⟨by omega, by show _ < 3; omega⟩ rfl hx hb hG dX4_restore_146 ?_
              refine m_iast 7 rfl rfl (by decide) iD ⟨by omega, by show _ < 3; omega⟩ hx hb hG dX4_restore_147 (fun H locs (hG : mW X mo ad (sA TD 7 iD (TD.2.1 23 iD)) s H locs) => ?_)
              refine lv_iinc (v := zI ((iD : Int) + 1 : Int)) (lv' := [(1, .int (zI ((iD : Int) + 1 : Int))), (0, .ref mo)]) hx hb dX4_restore_148 hl (k := 1) rfl ((zI_add _ _).trans (congrArg zI (by omega))) (by decide) rfl (fun ls hl => ?_)
              refine lv_goto (tgt := 131) hx hb dX4_restore_151 (by decide) ?_
              exact ihD (3 - (iD + 1)) (by omega) H locs ls ⟨(iD + 1), (sA TD 7 iD (TD.2.1 23 iD)), ⟨by omega, rfl, hDI, fun k q0 => (sA_o q0).trans (hDA k q0), hDL, fun j hj => by by_cases hji : j = iD; (subst hji; exact (sA_s).trans (congrFun (hDA 23 (by decide)) _)); exact (sA_n hji).trans ((hDE j (by omega)))⟩, hG, (lv_sub hl [1, 0] rfl)⟩
          · refine lv_aload_n hx hb dX4_restore_111 rfl (lv_at hl 0 rfl) ?_
            refine m_get 6 (by decide) (v := .ref (ad 6)) rfl hx hb hts hown hG (hts _ q3302) dX4_restore_112 ?_
            refine lv_iload_n hx hb dX4_restore_115 rfl (lv_at hl 1 rfl) ?_
            refine lv_aload_n hx hb dX4_restore_116 rfl (lv_at hl 0 rfl) ?_
            refine m_get 22 (by decide) (v := .ref (ad 22)) rfl hx hb hts hown hG (hts _ q3318) dX4_restore_117 ?_
            refine lv_iload_n hx hb dX4_restore_120 rfl (lv_at hl 1 rfl) ?_
            refine m_iald 22 rfl rfl (by decide) iC (v := TC.2.1 22 iC) ⟨by omega, by show _ < 112; omega⟩ rfl hx hb hG dX4_restore_121 ?_
            refine m_iast 6 rfl rfl (by decide) iC ⟨by omega, by show _ < 112; omega⟩ hx hb hG dX4_restore_122 (fun H locs (hG : mW X mo ad (sA TC 6 iC (TC.2.1 22 iC)) s H locs) => ?_)
            refine lv_iinc (v := zI ((iC : Int) + 1 : Int)) (lv' := [(1, .int (zI ((iC : Int) + 1 : Int))), (0, .ref mo)]) hx hb dX4_restore_123 hl (k := 1) rfl ((zI_add _ _).trans (congrArg zI (by omega))) (by decide) rfl (fun ls hl => ?_)
            refine lv_goto (tgt := 105) hx hb dX4_restore_126 (by decide) ?_
            exact ihC (112 - (iC + 1)) (by omega) H locs ls ⟨(iC + 1), (sA TC 6 iC (TC.2.1 22 iC)), ⟨by omega, rfl, hCI, fun k q0 => (sA_o q0).trans (hCA k q0), hCL, fun j hj => by by_cases hji : j = iC; (subst hji; exact (sA_s).trans (congrFun (hCA 22 (by decide)) _)); exact (sA_n hji).trans ((hCE j (by omega)))⟩, hG, (lv_sub hl [1, 0] rfl)⟩
        · refine lv_aload_n hx hb dX4_restore_85 rfl (lv_at hl 0 rfl) ?_
          refine m_get 3 (by decide) (v := .ref (ad 3)) rfl hx hb hts hown hG (hts _ q3299) dX4_restore_86 ?_
          refine lv_iload_n hx hb dX4_restore_89 rfl (lv_at hl 1 rfl) ?_
          refine lv_aload_n hx hb dX4_restore_90 rfl (lv_at hl 0 rfl) ?_
          refine m_get 20 (by decide) (v := .ref (ad 20)) rfl hx hb hts hown hG (hts _ q3316) dX4_restore_91 ?_
          refine lv_iload_n hx hb dX4_restore_94 rfl (lv_at hl 1 rfl) ?_
          refine m_lald 20 rfl rfl iB (v := TB.2.2 20 iB) ⟨by omega, by show _ < 384; omega⟩ rfl hx hb hG dX4_restore_95 ?_
          refine m_last 3 rfl rfl iB ⟨by omega, by show _ < 408; omega⟩ hx hb hG dX4_restore_96 (fun H locs (hG : mW X mo ad (sL TB 3 iB (TB.2.2 20 iB)) s H locs) => ?_)
          refine lv_iinc (v := zI ((iB : Int) + 1 : Int)) (lv' := [(1, .int (zI ((iB : Int) + 1 : Int))), (0, .ref mo)]) hx hb dX4_restore_97 hl (k := 1) rfl ((zI_add _ _).trans (congrArg zI (by omega))) (by decide) rfl (fun ls hl => ?_)
          refine lv_goto (tgt := 78) hx hb dX4_restore_100 (by decide) ?_
          exact ihB (384 - (iB + 1)) (by omega) H locs ls ⟨(iB + 1), (sL TB 3 iB (TB.2.2 20 iB)), ⟨by omega, rfl, hBI, hBA, fun k hk => (sL_o hk).trans (hBO k hk), fun j hj => by by_cases hji : j = iB; (subst hji; rw [sL_s]; exact congrFun (hBO 20 (by decide)) _); rw [sL_n hji]; exact hBE j (by omega)⟩, hG, (lv_sub hl [1, 0] rfl)⟩
      · refine lv_aload_n hx hb dX4_restore_46 rfl (lv_at hl 0 rfl) ?_
        refine m_get 1 (by decide) (v := .ref (ad 1)) rfl hx hb hts hown hG (hts _ q3297) dX4_restore_47 ?_
        refine lv_iload_n hx hb dX4_restore_50 rfl (lv_at hl 1 rfl) ?_
        refine lv_aload_n hx hb dX4_restore_51 rfl (lv_at hl 0 rfl) ?_
        refine m_get 18 (by decide) (v := .ref (ad 18)) rfl hx hb hts hown hG (hts _ q3314) dX4_restore_52 ?_
        refine lv_iload_n hx hb dX4_restore_55 rfl (lv_at hl 1 rfl) ?_
        refine m_iald 18 rfl rfl (by decide) iA (v := TA.2.1 18 iA) ⟨by omega, by show _ < 16; omega⟩ rfl hx hb hG dX4_restore_56 ?_
        refine m_iast 1 rfl rfl (by decide) iA ⟨by omega, by show _ < 16; omega⟩ hx hb hG dX4_restore_57 (fun H locs (hG : mW X mo ad (sA TA 1 iA (TA.2.1 18 iA)) s H locs) => ?_)
        refine lv_aload_n hx hb dX4_restore_58 rfl (lv_at hl 0 rfl) ?_
        refine m_get 2 (by decide) (v := .ref (ad 2)) rfl hx hb hts hown hG (hts _ q3298) dX4_restore_59 ?_
        refine lv_iload_n hx hb dX4_restore_62 rfl (lv_at hl 1 rfl) ?_
        refine lv_aload_n hx hb dX4_restore_63 rfl (lv_at hl 0 rfl) ?_
        refine m_get 19 (by decide) (v := .ref (ad 19)) rfl hx hb hts hown hG (hts _ q3315) dX4_restore_64 ?_
        refine lv_iload_n hx hb dX4_restore_67 rfl (lv_at hl 1 rfl) ?_
        refine m_iald 19 rfl rfl (by decide) iA (v := (sA TA 1 iA (TA.2.1 18 iA)).2.1 19 iA) ⟨by omega, by show _ < 16; omega⟩ rfl hx hb hG dX4_restore_68 ?_
        refine m_iast 2 rfl rfl (by decide) iA ⟨by omega, by show _ < 17; omega⟩ hx hb hG dX4_restore_69 (fun H locs (hG : mW X mo ad (sA (sA TA 1 iA (TA.2.1 18 iA)) 2 iA ((sA TA 1 iA (TA.2.1 18 iA)).2.1 19 iA)) s H locs) => ?_)
        refine lv_iinc (v := zI ((iA : Int) + 1 : Int)) (lv' := [(1, .int (zI ((iA : Int) + 1 : Int))), (0, .ref mo)]) hx hb dX4_restore_70 hl (k := 1) rfl ((zI_add _ _).trans (congrArg zI (by omega))) (by decide) rfl (fun ls hl => ?_)
        refine lv_goto (tgt := 40) hx hb dX4_restore_73 (by decide) ?_
        exact ihA (16 - (iA + 1)) (by omega) H locs ls ⟨(iA + 1), (sA (sA TA 1 iA (TA.2.1 18 iA)) 2 iA ((sA TA 1 iA (TA.2.1 18 iA)).2.1 19 iA)), ⟨by omega, rfl, hAI, fun k q0 q1 => (sA_o q1).trans ((sA_o q0).trans (hAA k q0 q1)), hAL, fun j hj => by by_cases hji : j = iA; (subst hji; refine ⟨(congrFun (sA_o (by decide)) _).trans ((sA_s).trans (congrFun (hAA 18 (by decide) (by decide)) _)), (sA_s).trans ((congrFun (sA_o (by decide)) _).trans (congrFun (hAA 19 (by decide) (by decide)) _))⟩); refine ⟨(congrFun (sA_o (by decide)) _).trans ((sA_n hji).trans ((hAE j (by omega)).1)), (sA_n hji).trans ((congrFun (sA_o (by decide)) _).trans ((hAE j (by omega)).2))⟩⟩, hG, (lv_sub hl [1, 0] rfl)⟩
    · exfalso; omega

