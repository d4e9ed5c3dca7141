set_option maxRecDepth 100000
def aSetI (a : aS) : aS := ((aWd a, some (aWd a)), a.2)
def opImage (a : aS) : Int × aS := ((wM (aWd a) : Nat), aSetI a)
theorem mX.image {S T : mS} {a : aS} (h : mX S a) (k : aOK a) (e1 : ∀ k, k ≠ 16 → k ≠ 17 → k ≠ 21 → k ≠ 24 → T.1 k = S.1 k) (e2 : ∀ k, k ≠ 18 → k ≠ 19 → k ≠ 22 → k ≠ 23 → T.2.1 k = S.2.1 k) (e3 : ∀ k, k ≠ 20 → T.2.2 k = S.2.2 k) (g : T.1 16 = 1 ∧ T.1 17 = S.1 0 ∧ T.1 21 = S.1 5 ∧ T.1 24 = S.1 8) (f : (∀ j, j < 16 → T.2.1 18 j = S.2.1 1 j ∧ T.2.1 19 j = S.2.1 2 j) ∧ (∀ j, j < 384 → T.2.2 20 j = S.2.2 3 j) ∧ (∀ j, j < 112 → T.2.1 22 j = S.2.1 6 j) ∧ ∀ j, j < 3 → T.2.1 23 j = S.2.1 7 j) : mX T (aSetI a) := by
  have hn := k.w.n
  have hM := k.w.m
  refine ⟨(mX.o h).cg ⟨⟨e1 0 (by decide) (by decide) (by decide) (by decide), e1 5 (by decide) (by decide) (by decide) (by decide), e1 8 (by decide) (by decide) (by decide) (by decide)⟩, ⟨e2 1 (by decide) (by decide) (by decide) (by decide), e2 2 (by decide) (by decide) (by decide) (by decide), e2 4 (by decide) (by decide) (by decide) (by decide), e2 6 (by decide) (by decide) (by decide) (by decide), e2 7 (by decide) (by decide) (by decide) (by decide)⟩, e3 3 (by decide)⟩, ⟨g.1, ⟨g.2.1.trans h.o.n, g.2.2.1.trans h.o.m, (congrArg zI g.2.2.2).trans h.o.seed⟩, fun r hr => ⟨(f.1 r (by omega)).1.trans (h.o.fo hr), (f.1 r (by omega)).2.trans (h.o.len hr), fun i hi => (f.2.1 _ (by have := (k.w.tx hr).1; omega)).trans (h.o.ln hr hi)⟩, fun m hm => ⟨(f.2.2.1 _ (by omega)).trans (h.o.kd hm), (f.2.2.1 _ (by omega)).trans (h.o.by hm), (f.2.2.1 _ (by omega)).trans (h.o.on hm), (f.2.2.1 _ (by omega)).trans (h.o.p hm), (f.2.2.1 _ (by omega)).trans (h.o.q hm), (f.2.2.1 _ (by omega)).trans (h.o.ans hm), (f.2.2.1 _ (by omega)).trans (h.o.st hm)⟩, (f.2.2.2 0 (by decide)).trans h.o.run, (f.2.2.2 1 (by decide)).trans h.o.need, (f.2.2.2 2 (by decide)).trans h.o.mar⟩, fun s hs => (h.2.2.1 s hs).cg' ⟨e2 9 (by decide) (by decide) (by decide) (by decide), e2 10 (by decide) (by decide) (by decide) (by decide), e3 11 (by decide)⟩, fun j hj => (congrFun (e2 15 (by decide) (by decide) (by decide) (by decide)) j).trans (h.2.2.2.1 j hj), (e1 12 (by decide) (by decide) (by decide) (by decide)).trans h.2.2.2.2.1, h.2.2.2.2.2.cg ⟨e1 13 (by decide) (by decide) (by decide) (by decide), e2 14 (by decide) (by decide) (by decide) (by decide)⟩⟩
set_option maxHeartbeats 4000000 in
theorem metX4_image {l : Launch} {X : gX} {mo : Nat} {ad : Nat → Nat} {S : mS} {a : aS} (hX : mX S a) (hA : aOK a) : Met l yX4_image (ws_ yX4_image cX4_image 2 (some FieldType.int)) ({ frames := 0, cells := 0, slots := 0, locals := 0 }) (mP X mo ad S [.ref mo]) (mQi X mo ad (fun u T => u = zI (opImage a).1 ∧ mX T (opImage a).2)) 0 0 (mA mo ad) := by
  refine Met.m (by decide) (Nat.le_of_ble_eq_true rfl) ?_
  intro p e s m below meth c ls hx hb hr hts hown hlocks hml hG hl
  have hl : lv_has ls 2 [(0, .ref mo)] := hl
  have hNN := hA.w.n
  have hMM := hA.w.m
  refine lv_aload_n hx hb dX4_image_0 rfl (lv_at hl 0 rfl) ?_
  refine lv_iconst (v := zI 1) hx hb dX4_image_1 (by decide +kernel) ?_
  refine m_put 16 (by decide) rfl rfl (tyX4_ok 16 (by decide)) (by first | rfl | decide +kernel) (by first | rfl | decide +kernel) hx hb hts hown hG (hts _ q3312) dX4_image_2 (fun H locs (hG : mW X mo ad (sI S 16 1) s H locs) => ?_)
  refine lv_aload_n hx hb dX4_image_5 rfl (lv_at hl 0 rfl) ?_
  refine lv_aload_n hx hb dX4_image_6 rfl (lv_at hl 0 rfl) ?_
  refine m_get 0 (by decide) (v := .int (zI (wN (aWd a) : Int))) (congrArg (fun z => Value.int (zI z)) (show (sI S 16 1).1 0 = (wN (aWd a) : Int) from hX.o.n)) hx hb hts hown hG (hts _ q3296) dX4_image_7 ?_
  refine m_put 17 (by decide) rfl rfl (tyX4_ok 17 (by decide)) rfl rfl hx hb hts hown hG (hts _ q3313) dX4_image_10 (fun H locs (hG : mW X mo ad (sI (sI S 16 1) 17 (wN (aWd a) : Int)) s H locs) => ?_)
  refine lv_aload_n hx hb dX4_image_13 rfl (lv_at hl 0 rfl) ?_
  refine lv_aload_n hx hb dX4_image_14 rfl (lv_at hl 0 rfl) ?_
  refine m_get 5 (by decide) (v := .int (zI (wM (aWd a) : Int))) (congrArg (fun z => Value.int (zI z)) (show (sI (sI S 16 1) 17 (wN (aWd a) : Int)).1 5 = (wM (aWd a) : Int) from hX.o.m)) hx hb hts hown hG (hts _ q3301) dX4_image_15 ?_
  refine m_put 21 (by decide) rfl rfl (tyX4_ok 21 (by decide)) rfl rfl hx hb hts hown hG (hts _ q3317) dX4_image_18 (fun H locs (hG : mW X mo ad (sI (sI (sI S 16 1) 17 (wN (aWd a) : Int)) 21 (wM (aWd a) : Int)) s H locs) => ?_)
  refine lv_aload_n hx hb dX4_image_21 rfl (lv_at hl 0 rfl) ?_
  refine lv_aload_n hx hb dX4_image_22 rfl (lv_at hl 0 rfl) ?_
  refine m_get 8 (by decide) (v := .int (zI ((sI (sI (sI S 16 1) 17 (wN (aWd a) : Int)) 21 (wM (aWd a) : Int)).1 8))) rfl hx hb hts hown hG (hts _ q3304) dX4_image_23 ?_
  refine m_put 24 (by decide) rfl rfl (tyX4_ok 24 (by decide)) rfl rfl hx hb hts hown hG (hts _ q3320) dX4_image_26 (fun H locs (hG : mW X mo ad (sI (sI (sI (sI S 16 1) 17 (wN (aWd a) : Int)) 21 (wM (aWd a) : Int)) 24 ((sI (sI (sI S 16 1) 17 (wN (aWd a) : Int)) 21 (wM (aWd a) : Int)).1 8)) s H locs) => ?_)
  refine lv_iconst (v := zI 0) hx hb dX4_image_29 (by decide +kernel) ?_
  refine lv_istore_n (lv' := [(1, .int (zI 0)), (0, .ref mo)]) hx hb dX4_image_30 rfl hl (by decide) rfl (fun ls hl => ?_)
  obtain ⟨B, hB⟩ : ∃ B, B = (sI (sI (sI (sI S 16 1) 17 (wN (aWd a) : Int)) 21 (wM (aWd a) : Int)) 24 ((sI (sI (sI S 16 1) 17 (wN (aWd a) : Int)) 21 (wM (aWd a) : Int)).1 8)) := ⟨_, rfl⟩
  have hG : mW X mo ad B s H locs := by rw [hB]; exact hG
  refine g_loop (fun mz H locs ls => ∃ (iA : Nat) (TA : mS), (iA ≤ 16 ∧ mz = 16 - iA ∧ TA.1 = B.1 ∧ (∀ k, k ≠ 18 → k ≠ 19 → TA.2.1 k = B.2.1 k) ∧ TA.2.2 = B.2.2 ∧ ∀ j, j < iA → TA.2.1 18 j = B.2.1 1 j ∧ TA.2.1 19 j = B.2.1 2 j) ∧ mW X mo ad TA s H locs ∧ lv_has ls 2 [(0, .ref mo), (1, .int (zI (iA : Int)))]) (16 - 0) ⟨0, B, ⟨by omega, rfl, rfl, fun _ _ _ => rfl, rfl, fun j hj => by omega⟩, hG, (lv_sub hl [1, 0] rfl)⟩ (fun mz ihA H locs ls hI => ?_)
  obtain ⟨iA, TA, ⟨hkA, hzA, hAI, hAA, hAL, hAE⟩, hG, hl⟩ := hI
  refine lv_iload_n hx hb dX4_image_31 rfl (lv_at hl 1 rfl) ?_
  refine lv_bipush (v := zI 16) hx hb dX4_image_32 (by decide +kernel) ?_
  refine g_cge (tgt := 67) hx hb dX4_image_34 (by decide) (by omega) (fun hAb => ?_) (fun hAb => ?_)
  · have hiA : iA = 16 := by omega
    subst hiA
    refine lv_iconst (v := zI 0) hx hb dX4_image_67 (by decide +kernel) ?_
    refine lv_istore_n (lv' := [(1, .int (zI 0)), (0, .ref mo)]) hx hb dX4_image_68 rfl hl (by decide) rfl (fun ls hl => ?_)
    refine g_loop (fun mz H locs ls => ∃ (iB : Nat) (TB : mS), (iB ≤ 384 ∧ mz = 384 - iB ∧ TB.1 = TA.1 ∧ TB.2.1 = TA.2.1 ∧ (∀ k, k ≠ 20 → TB.2.2 k = TA.2.2 k) ∧ ∀ j, j < iB → TB.2.2 20 j = TA.2.2 3 j) ∧ mW X mo ad TB s H locs ∧ lv_has ls 2 [(0, .ref mo), (1, .int (zI (iB : Int)))]) (384 - 0) ⟨0, TA, ⟨by omega, rfl, rfl, rfl, fun _ _ => rfl, fun j hj => by omega⟩, hG, (lv_sub hl [1, 0] rfl)⟩ (fun mz ihB H locs ls hI => ?_)
    obtain ⟨iB, TB, ⟨hkB, hzB, hBI, hBA, hBO, hBE⟩, hG, hl⟩ := hI
    refine lv_iload_n hx hb dX4_image_69 rfl (lv_at hl 1 rfl) ?_
    refine lv_sipush (v := zI 384) hx hb dX4_image_70 (by decide +kernel) ?_
    refine g_cge (tgt := 94) hx hb dX4_image_73 (by decide) (by omega) (fun hBb => ?_) (fun hBb => ?_)
    · have hiB : iB = 384 := by omega
      subst hiB
      refine lv_iconst (v := zI 0) hx hb dX4_image_94 (by decide +kernel) ?_
      refine lv_istore_n (lv' := [(1, .int (zI 0)), (0, .ref mo)]) hx hb dX4_image_95 rfl hl (by decide) rfl (fun ls hl => ?_)
      refine g_loop (fun mz H locs ls => ∃ (iC : Nat) (TC : mS), (iC ≤ 112 ∧ mz = 112 - iC ∧ TC.1 = TB.1 ∧ (∀ k, k ≠ 22 → TC.2.1 k = TB.2.1 k) ∧ TC.2.2 = TB.2.2 ∧ ∀ j, j < iC → TC.2.1 22 j = TB.2.1 6 j) ∧ mW X mo ad TC s H locs ∧ lv_has ls 2 [(0, .ref mo), (1, .int (zI (iC : Int)))]) (112 - 0) ⟨0, TB, ⟨by omega, rfl, rfl, fun _ _ => rfl, rfl, fun j hj => by omega⟩, hG, (lv_sub hl [1, 0] rfl)⟩ (fun mz ihC H locs ls hI => ?_)
      obtain ⟨iC, TC, ⟨hkC, hzC, hCI, hCA, hCL, hCE⟩, hG, hl⟩ := hI
      refine lv_iload_n hx hb dX4_image_96 rfl (lv_at hl 1 rfl) ?_
      refine lv_bipush (v := zI 112) hx hb dX4_image_97 (by decide +kernel) ?_
      refine g_cge (tgt := 120) hx hb dX4_image_99 (by decide) (by omega) (fun hCb => ?_) (fun hCb => ?_)
      · have hiC : iC = 112 := by omega
        subst hiC
        refine lv_iconst (v := zI 0) hx hb dX4_image_120 (by decide +kernel) ?_
        refine lv_istore_n (lv' := [(1, .int (zI 0)), (0, .ref mo)]) hx hb dX4_image_121 rfl hl (by decide) rfl (fun ls hl => ?_)
        refine g_loop (fun mz H locs ls => ∃ (iD : Nat) (TD : mS), (iD ≤ 3 ∧ mz = 3 - iD ∧ TD.1 = TC.1 ∧ (∀ k, k ≠ 23 → TD.2.1 k = TC.2.1 k) ∧ TD.2.2 = TC.2.2 ∧ ∀ j, j < iD → TD.2.1 23 j = TC.2.1 7 j) ∧ mW X mo ad TD s H locs ∧ lv_has ls 2 [(0, .ref mo), (1, .int (zI (iD : Int)))]) (3 - 0) ⟨0, TC, ⟨by omega, rfl, rfl, fun _ _ => rfl, rfl, fun j hj => by omega⟩, hG, (lv_sub hl [1, 0] rfl)⟩ (fun mz ihD H locs ls hI => ?_)
        obtain ⟨iD, TD, ⟨hkD, hzD, hDI, hDA, hDL, hDE⟩, hG, hl⟩ := hI
        refine lv_iload_n hx hb dX4_image_122 rfl (lv_at hl 1 rfl) ?_
        refine lv_iconst (v := zI 3) hx hb dX4_image_123 (by decide +kernel) ?_
        refine g_cge (tgt := 145) hx hb dX4_image_124 (by decide) (by omega) (fun hDb => ?_) (fun hDb => ?_)
        · have hiD : iD = 3 := by omega
          subst hiD
          have eI : TD.1 = B.1 := hDI.trans (hCI.trans (hBI.trans hAI))
          have b1 : ∀ k, k ≠ 16 → k ≠ 17 → k ≠ 21 → k ≠ 24 → B.1 k = S.1 k := fun k q1 q2 q3 q4 => by rw [hB, sI_n q4, sI_n q3, sI_n q2, sI_n q1]
          have b2 : B.2 = S.2 := by rw [hB]; rfl
          refine lv_aload_n hx hb dX4_image_145 rfl (lv_at hl 0 rfl) ?_
          refine m_get 5 (by decide) (v := .int (zI (wM (aWd a) : Int))) (congrArg (fun z => Value.int (zI z)) (show TD.1 5 = (wM (aWd a) : Int) from ((congrFun eI 5).trans ((b1 5 (by decide) (by decide) (by decide) (by decide)).trans hX.o.m)))) hx hb hts hown hG (hts _ q3301) dX4_image_146 ?_
          exact m_iret hx hb hr hlocks hG (⟨rfl, hX.image hA (fun k q1 q2 q3 q4 => (congrFun eI k).trans (b1 k q1 q2 q3 q4)) (fun k q1 q2 q3 q4 => (hDA k q4).trans ((hCA k q3).trans ((congrFun hBA k).trans ((hAA k q1 q2).trans (by rw [b2]))))) (fun k q => (congrFun hDL k).trans ((congrFun hCL k).trans ((hBO k q).trans ((congrFun hAL k).trans (by rw [b2]))))) (by rw [eI, hB]; exact ⟨rfl, hX.o.n.symm, hX.o.m.symm, rfl⟩) ⟨fun j hj => ⟨(congrFun (hDA 18 (by decide)) j).trans ((congrFun (hCA 18 (by decide)) j).trans ((congrFun (congrFun hBA 18) j).trans ((hAE j hj).1.trans (by rw [b2])))), (congrFun (hDA 19 (by decide)) j).trans ((congrFun (hCA 19 (by decide)) j).trans ((congrFun (congrFun hBA 19) j).trans ((hAE j hj).2.trans (by rw [b2]))))⟩, fun j hj => (congrFun (congrFun hDL 20) j).trans ((congrFun (congrFun hCL 20) j).trans ((hBE j hj).trans ((congrFun (congrFun hAL 3) j).trans (by rw [b2])))), fun j hj => (congrFun (hDA 22 (by decide)) j).trans ((hCE j hj).trans ((congrFun (congrFun hBA 6) j).trans ((congrFun (hAA 6 (by decide) (by decide)) j).trans (by rw [b2])))), fun j hj => (hDE j hj).trans ((congrFun (hCA 7 (by decide)) j).trans ((congrFun (congrFun hBA 7) j).trans ((congrFun (hAA 7 (by decide) (by decide)) j).trans (by rw [b2]))))⟩⟩) ⟨Nat.le_of_ble_eq_true rfl, Nat.le_of_ble_eq_true rfl⟩ dX4_image_149
        · refine lv_aload_n hx hb dX4_image_127 rfl (lv_at hl 0 rfl) ?_
          refine m_get 23 (by decide) (v := .ref (ad 23)) rfl hx hb hts hown hG (hts _ q3319) dX4_image_128 ?_
          refine lv_iload_n hx hb dX4_image_131 rfl (lv_at hl 1 rfl) ?_
          refine lv_aload_n hx hb dX4_image_132 rfl (lv_at hl 0 rfl) ?_
          refine m_get 7 (by decide) (v := .ref (ad 7)) rfl hx hb hts hown hG (hts _ q3303) dX4_image_133 ?_
          refine lv_iload_n hx hb dX4_image_136 rfl (lv_at hl 1 rfl) ?_
          refine m_iald 7 rfl rfl (by decide) iD (v := TD.2.1 7 iD) ⟨by omega, by show _ < 3; omega⟩ rfl hx hb hG dX4_image_137 ?_
          refine m_iast 23 rfl rfl (by decide) iD ⟨by omega, by show _ < 3; omega⟩ hx hb hG dX4_image_138 (fun H locs (hG : mW X mo ad (sA TD 23 iD (TD.2.1 7 iD)) s H locs) => ?_)
          refine lv_iinc (v := zI ((iD : Int) + 1 : Int)) (lv' := [(1, .int (zI ((iD : Int) + 1 : Int))), (0, .ref mo)]) hx hb dX4_image_139 hl (k := 1) rfl ((zI_add _ _).trans (congrArg zI (by omega))) (by decide) rfl (fun ls hl => ?_)
          refine lv_goto (tgt := 122) hx hb dX4_image_142 (by decide) ?_
          exact ihD (3 - (iD + 1)) (by omega) H locs ls ⟨(iD + 1), (sA TD 23 iD (TD.2.1 7 iD)), ⟨by omega, rfl, hDI, fun k q0 => (sA_o q0).trans (hDA k q0), hDL, fun j hj => by by_cases hji : j = iD; (subst hji; exact (sA_s).trans (congrFun (hDA 7 (by decide)) _)); exact (sA_n hji).trans ((hDE j (by omega)))⟩, hG, (lv_sub hl [1, 0] rfl)⟩
      · refine lv_aload_n hx hb dX4_image_102 rfl (lv_at hl 0 rfl) ?_
        refine m_get 22 (by decide) (v := .ref (ad 22)) rfl hx hb hts hown hG (hts _ q3318) dX4_image_103 ?_
        refine lv_iload_n hx hb dX4_image_106 rfl (lv_at hl 1 rfl) ?_
        refine lv_aload_n hx hb dX4_image_107 rfl (lv_at hl 0 rfl) ?_
        refine m_get 6 (by decide) (v := .ref (ad 6)) rfl hx hb hts hown hG (hts _ q3302) dX4_image_108 ?_
        refine lv_iload_n hx hb dX4_image_111 rfl (lv_at hl 1 rfl) ?_
        refine m_iald 6 rfl rfl (by decide) iC (v := TC.2.1 6 iC) ⟨by omega, by show _ < 112; omega⟩ rfl hx hb hG dX4_image_112 ?_
        refine m_iast 22 rfl rfl (by decide) iC ⟨by omega, by show _ < 112; omega⟩ hx hb hG dX4_image_113 (fun H locs (hG : mW X mo ad (sA TC 22 iC (TC.2.1 6 iC)) s H locs) => ?_)
        refine lv_iinc (v := zI ((iC : Int) + 1 : Int)) (lv' := [(1, .int (zI ((iC : Int) + 1 : Int))), (0, .ref mo)]) hx hb dX4_image_114 hl (k := 1) rfl ((zI_add _ _).trans (congrArg zI (by omega))) (by decide) rfl (fun ls hl => ?_)
        refine lv_goto (tgt := 96) hx hb dX4_image_117 (by decide) ?_
        exact ihC (112 - (iC + 1)) (by omega) H locs ls ⟨(iC + 1), (sA TC 22 iC (TC.2.1 6 iC)), ⟨by omega, rfl, hCI, fun k q0 => (sA_o q0).trans (hCA k q0), hCL, fun j hj => by by_cases hji : j = iC; (subst hji; exact (sA_s).trans (congrFun (hCA 6 (by decide)) _)); exact (sA_n hji).trans ((hCE j (by omega)))⟩, hG, (lv_sub hl [1, 0] rfl)⟩
    · refine lv_aload_n hx hb dX4_image_76 rfl (lv_at hl 0 rfl) ?_
      refine m_get 20 (by decide) (v := .ref (ad 20)) rfl hx hb hts hown hG (hts _ q3316) dX4_image_77 ?_
      refine lv_iload_n hx hb dX4_image_80 rfl (lv_at hl 1 rfl) ?_
      refine lv_aload_n hx hb dX4_image_81 rfl (lv_at hl 0 rfl) ?_
      refine m_get 3 (by decide) (v := .ref (ad 3)) rfl hx hb hts hown hG (hts _ q3299) dX4_image_82 ?_
      refine lv_iload_n hx hb dX4_image_85 rfl (lv_at hl 1 rfl) ?_
      refine m_lald 3 rfl rfl iB (v := TB.2.2 3 iB) ⟨by omega, by show _ < 408; omega⟩ rfl hx hb hG dX4_image_86 ?_
      refine m_last 20 rfl rfl iB ⟨by omega, by show _ < 384; omega⟩ hx hb hG dX4_image_87 (fun H locs (hG : mW X mo ad (sL TB 20 iB (TB.2.2 3 iB)) s H locs) => ?_)
      refine lv_iinc (v := zI ((iB : Int) + 1 : Int)) (lv' := [(1, .int (zI ((iB : Int) + 1 : Int))), (0, .ref mo)]) hx hb dX4_image_88 hl (k := 1) rfl ((zI_add _ _).trans (congrArg zI (by omega))) (by decide) rfl (fun ls hl => ?_)
      refine lv_goto (tgt := 69) hx hb dX4_image_91 (by decide) ?_
      exact ihB (384 - (iB + 1)) (by omega) H locs ls ⟨(iB + 1), (sL TB 20 iB (TB.2.2 3 iB)), ⟨by omega, rfl, hBI, hBA, fun k hk => (sL_o hk).trans (hBO k hk), fun j hj => by by_cases hji : j = iB; (subst hji; rw [sL_s]; exact congrFun (hBO 3 (by decide)) _); rw [sL_n hji]; exact hBE j (by omega)⟩, hG, (lv_sub hl [1, 0] rfl)⟩
  · refine lv_aload_n hx hb dX4_image_37 rfl (lv_at hl 0 rfl) ?_
    refine m_get 18 (by decide) (v := .ref (ad 18)) rfl hx hb hts hown hG (hts _ q3314) dX4_image_38 ?_
    refine lv_iload_n hx hb dX4_image_41 rfl (lv_at hl 1 rfl) ?_
    refine lv_aload_n hx hb dX4_image_42 rfl (lv_at hl 0 rfl) ?_
    refine m_get 1 (by decide) (v := .ref (ad 1)) rfl hx hb hts hown hG (hts _ q3297) dX4_image_43 ?_
    refine lv_iload_n hx hb dX4_image_46 rfl (lv_at hl 1 rfl) ?_
    refine m_iald 1 rfl rfl (by decide) iA (v := TA.2.1 1 iA) ⟨by omega, by show _ < 16; omega⟩ rfl hx hb hG dX4_image_47 ?_
    refine m_iast 18 rfl rfl (by decide) iA ⟨by omega, by show _ < 16; omega⟩ hx hb hG dX4_image_48 (fun H locs (hG : mW X mo ad (sA TA 18 iA (TA.2.1 1 iA)) s H locs) => ?_)
    refine lv_aload_n hx hb dX4_image_49 rfl (lv_at hl 0 rfl) ?_
    refine m_get 19 (by decide) (v := .ref (ad 19)) rfl hx hb hts hown hG (hts _ q3315) dX4_image_50 ?_
    refine lv_iload_n hx hb dX4_image_53 rfl (lv_at hl 1 rfl) ?_
    refine lv_aload_n hx hb dX4_image_54 rfl (lv_at hl 0 rfl) ?_
    refine m_get 2 (by decide) (v := .ref (ad 2)) rfl hx hb hts hown hG (hts _ q3298) dX4_image_55 ?_
    refine lv_iload_n hx hb dX4_image_58 rfl (lv_at hl 1 rfl) ?_
    refine m_iald 2 rfl rfl (by decide) iA (v := (sA TA 18 iA (TA.2.1 1 iA)).2.1 2 iA) ⟨by omega, by show _ < 17; omega⟩ rfl hx hb hG dX4_image_59 ?_
    refine m_iast 19 rfl rfl (by decide) iA ⟨by omega, by show _ < 16; omega⟩ hx hb hG dX4_image_60 (fun H locs (hG : mW X mo ad (sA (sA TA 18 iA (TA.2.1 1 iA)) 19 iA ((sA TA 18 iA (TA.2.1 1 iA)).2.1 2 iA)) s H locs) => ?_)
    refine lv_iinc (v := zI ((iA : Int) + 1 : Int)) (lv' := [(1, .int (zI ((iA : Int) + 1 : Int))), (0, .ref mo)]) hx hb dX4_image_61 hl (k := 1) rfl ((zI_add _ _).trans (congrArg zI (by omega))) (by decide) rfl (fun ls hl => ?_)
    refine lv_goto (tgt := 31) hx hb dX4_image_64 (by decide) ?_
    exact ihA (16 - (iA + 1)) (by omega) H locs ls ⟨(iA + 1), (sA (sA TA 18 iA (TA.2.1 1 iA)) 19 iA ((sA TA 18 iA (TA.2.1 1 iA)).2.1 2 iA)), ⟨by omega, rfl, hAI, fun k q0 q1 => (sA_o q1).trans ((sA_o q0).trans (hAA k q0 q1)), hAL, fun j hj => by by_cases hji : j = iA; (subst hji; refine ⟨(congrFun (sA_o (by decide)) _).trans ((sA_s).trans (congrFun (hAA 1 (by decide) (by decide)) _)), (sA_s).trans ((congrFun (sA_o (by decide)) _).trans (congrFun (hAA 2 (by decide) (by decide)) _))⟩); refine ⟨(congrFun (sA_o (by decide)) _).trans ((sA_n hji).trans ((hAE j (by omega)).1)), (sA_n hji).trans ((congrFun (sA_o (by decide)) _).trans ((hAE j (by omega)).2))⟩⟩, hG, (lv_sub hl [1, 0] rfl)⟩

