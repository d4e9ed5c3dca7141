set_option maxRecDepth 100000
def wAdd (w : aW) (fo : Option Nat) (t : Tx) : aW := ((wN w + 1, va_up (wFo w) (wN w) fo, va_up (wTx w) (wN w) t), w.2)
theorem wAdd_tx {w : aW} {fo : Option Nat} {t : Tx} {r : Nat} (h : r < wN w) : wTx (wAdd w fo t) r = wTx w r := va_up_ne _ _ (by omega)
theorem wAdd_fo {w : aW} {fo : Option Nat} {t : Tx} {r : Nat} (h : r < wN w) : wFo (wAdd w fo t) r = wFo w r := va_up_ne _ _ (by omega)
theorem wAdd_tx' {w : aW} {fo : Option Nat} {t : Tx} : wTx (wAdd w fo t) (wN w) = t := va_up_self _ _ _
theorem wAdd_fo' {w : aW} {fo : Option Nat} {t : Tx} : wFo (wAdd w fo t) (wN w) = fo := va_up_self _ _ _
theorem wAdd_cm {w : aW} {fo : Option Nat} {t : Tx} (k : wOK w) {r i : Nat} (h : r < wN w) : cmR (wAdd w fo t) r i = cmR w r i := by
  unfold cmR
  rw [wAdd_fo h]
  cases hf : wFo w r with
  | none => rfl
  | some f => have := k.fo r f hf; show mPlace _ _ _ i = mPlace _ _ _ i; rw [wAdd_tx (by omega), wAdd_tx h]; rfl
theorem wOK.add {w : aW} {fo : Option Nat} {t : Tx} (k : wOK w) (hn : wN w < 16) (hf : ∀ f, fo = some f → f < wN w) (ht : txOK t) : wOK (wAdd w fo t) := by
  refine ⟨hn, fun r hr => ?_, fun r f hrf => ?_, k.m, fun m hm => ?_, k.ru⟩
  · have hr : r < wN w + 1 := hr
    by_cases h : r = wN w
    · subst h; rw [wAdd_tx']; exact ht
    · rw [wAdd_tx (by omega)]; exact k.tx (by omega)
  · by_cases h : r = wN w
    · subst h; rw [wAdd_fo'] at hrf; exact hf f hrf
    · have hrf : va_up (wFo w) (wN w) fo r = some f := hrf
      rw [va_up_ne _ _ h] at hrf; exact k.fo r f hrf
  · have q := k.rm (m := m) hm
    refine ⟨q.1, q.2.1, Nat.lt_succ_of_lt q.2.2.1, q.2.2.2.1, ?_, q.2.2.2.2.2⟩
    show rQ (wRk w m) < (wTx (wAdd w fo t) (rOn (wRk w m))).length
    rw [wAdd_tx q.2.2.1]; exact q.2.2.2.2.1
/-- all but the number of revisions, formers and where lines come to -/
def mK14 (S T : mS) : Prop := ∀ k, k < 25 → (k ≠ 0 → T.1 k = S.1 k) ∧ (k ≠ 1 → k ≠ 4 → T.2.1 k = S.2.1 k) ∧ T.2.2 k = S.2.2 k
theorem mRv.add {S : mS} {w : aW} {fo : Option Nat} {t : Tx} (h : mRv S w) (hl : S.2.1 2 (wN w) = (t.length : Nat)) (hi : ∀ i, i < t.length → S.2.2 3 (24 * wN w + i) = lnZ (t.getD i [])) : mRv (sA S 1 (wN w) (oI fo)) (wAdd w fo t) := by
  refine ⟨fun r hr => ?_, h.2⟩
  have hr : r < wN w + 1 := hr
  by_cases hrn : r = wN w
  · subst hrn; rw [wAdd_fo', wAdd_tx', sA_s]; exact ⟨rfl, hl, hi⟩
  · rw [wAdd_fo (by omega), wAdd_tx (by omega), sA_n hrn]; exact h.1 r (by omega)
theorem mX.p0 {S T : mS} {a : aS} {w' : aW} (h : mX S a) (hO : mO T w') (e : mK14 S T) : mX T (aSetW a w') :=
  ⟨hO, h.2.1.cg ⟨⟨(e 16 (by decide)).1 (by decide), (e 17 (by decide)).1 (by decide), (e 21 (by decide)).1 (by decide), (e 24 (by decide)).1 (by decide)⟩, ⟨(e 18 (by decide)).2.1 (by decide) (by decide), (e 19 (by decide)).2.1 (by decide) (by decide), (e 22 (by decide)).2.1 (by decide) (by decide), (e 23 (by decide)).2.1 (by decide) (by decide)⟩, (e 20 (by decide)).2.2⟩,
   fun s hs => (h.2.2.1 s hs).cg' ⟨(e 9 (by decide)).2.1 (by decide) (by decide), (e 10 (by decide)).2.1 (by decide) (by decide), (e 11 (by decide)).2.2⟩,
   fun j hj => (congrFun ((e 15 (by decide)).2.1 (by decide) (by decide)) j).trans (h.2.2.2.1 j hj), ((e 12 (by decide)).1 (by decide)).trans h.2.2.2.2.1, h.2.2.2.2.2.cg ⟨(e 13 (by decide)).1 (by decide), (e 14 (by decide)).2.1 (by decide) (by decide)⟩⟩
theorem mO.add {S T U : mS} {w : aW} {fo : Option Nat} {t : Tx} (h : mO S w) (k : wOK w) (hS : mRv (sA S 1 (wN w) (oI fo)) (wAdd w fo t)) (hb : mBut4 (sA S 1 (wN w) (oI fo)) T) (hoff : ∀ x, x < 24 * wN w ∨ 24 * wN w + 24 ≤ x → T.2.1 4 x = (sA S 1 (wN w) (oI fo)).2.1 4 x) (hon : wFo (wAdd w fo t) (wN w) ≠ none → ∀ i, i < 24 → T.2.1 4 (24 * wN w + i) = oI (cmR (wAdd w fo t) (wN w) i)) (hU : U = sI T 0 (wN w + 1 : Nat)) : mO U (wAdd w fo t) ∧ mK14 S U := by
  subst hU
  have b := fun k hk => hb k hk
  refine ⟨⟨⟨rfl, ?_, ?_⟩, ?_, ?_, ?_, ?_⟩, ?_⟩
  · exact (sI_n (by decide)).trans ((b 5 (by decide)).1.trans h.m)
  · exact (congrArg zI ((sI_n (by decide)).trans (b 8 (by decide)).1)).trans h.seed
  · exact (hS.b4 hb).cg ⟨rfl, rfl, rfl, rfl⟩
  · intro r hr hf i hi
    have hr : r < wN w + 1 := hr
    by_cases hrn : r = wN w
    · subst hrn; exact hon hf i hi
    · rw [wAdd_cm k (by omega)]
      rw [wAdd_fo (by omega)] at hf
      exact (hoff _ (by omega)).trans (h.cm (by omega) hf hi)
  · have e6 : T.2.1 6 = S.2.1 6 := ((b 6 (by decide)).2.1 (by decide)).trans (sA_o (by decide))
    intro m hm
    have q := h.2.2.2.1 m hm
    show T.2.1 6 m = _ ∧ T.2.1 6 (16 + m) = _ ∧ T.2.1 6 (32 + m) = _ ∧ T.2.1 6 (48 + m) = _ ∧ T.2.1 6 (64 + m) = _ ∧ T.2.1 6 (80 + m) = _ ∧ T.2.1 6 (96 + m) = _
    rw [e6]; exact q
  · have e7 : T.2.1 7 = S.2.1 7 := ((b 7 (by decide)).2.1 (by decide)).trans (sA_o (by decide))
    exact ⟨(congrFun e7 1).trans h.need, (congrFun e7 2).trans h.mar⟩
  · intro k hk
    exact ⟨fun q => (sI_n q).trans (b k hk).1, fun q1 q4 => ((b k hk).2.1 q4).trans (sA_o q1), (b k hk).2.2⟩
def aRv (a : aS) (x : Int) : Prop := 0 ≤ x ∧ x < wN (aWd a)
def aLn (a : aS) (x : Int) : Int := ((wTx (aWd a) x.toNat).length : Nat)
def opPlace (a : aS) (x y i : Int) : Int × aS := if ¬ ((0 ≤ x ∧ x < wN (aWd a)) ∧ 0 ≤ y ∧ y < wN (aWd a)) then aNoT a 1 else if ¬ (0 ≤ i ∧ i < aLn a x) then aNoT a 5 else (oI (mPlace (wTx (aWd a) x.toNat) (wTx (aWd a) y.toNat) (wRun (aWd a)) i.toNat), a)
def opMatched (a : aS) (x y i : Int) : Int × aS := if ¬ ((0 ≤ x ∧ x < wN (aWd a)) ∧ 0 ≤ y ∧ y < wN (aWd a)) then aNoR a 1 else if ¬ (0 ≤ i ∧ i ≤ 1) then aNoR a 5 else if i = 0 then ((mPairs (wTx (aWd a) x.toNat) (wTx (aWd a) y.toNat) : Nat), a) else ((mMoved (wTx (aWd a) x.toNat) (wTx (aWd a) y.toNat) (wRun (aWd a)) : Nat), a)
def opLines (a : aS) (x : Int) : Int × aS := if 0 ≤ x ∧ x < wN (aWd a) then (aLn a x, a) else aNoR a 1
def opFormer (a : aS) (x : Int) : Int × aS := if 0 ≤ x ∧ x < wN (aWd a) then (oI (wFo (aWd a) x.toNat), a) else aNoT a 1
def wRule (w : aW) (what v : Int) : aW := (w.1, w.2.1, (if what = 0 then v.toNat else wRun w, if what = 1 then v.toNat else wNeed w, if what = 2 then v.toNat else wMar w), wSeed w)
def aHad (w : aW) (what : Int) : Int := if what = 0 then (wRun w : Nat) else if what = 1 then (wNeed w : Nat) else (wMar w : Nat)
def opRule (a : aS) (what v : Int) : Int × aS := if ¬ ((0 ≤ what ∧ what ≤ 2) ∧ (if what = 0 then 1 else 0) ≤ v ∧ v ≤ (if what = 0 then 9 else if what = 1 then 99 else 20)) then aNoR a 6 else (aHad (aWd a) what, aSetW a (wRule (aWd a) what v))
theorem mXk.b4 {S T : mS} {a : aS} {r : Nat} (h : mXk S a r) (e : mBut4 S T) (hoff : ∀ x, x < 24 * r ∨ 24 * r + 24 ≤ x → T.2.1 4 x = S.2.1 4 x) (hon : wFo (aWd a) r ≠ none → ∀ i, i < 24 → T.2.1 4 (24 * r + i) = oI (cmR (aWd a) r i)) : mXk T a (r + 1) := by
  obtain ⟨⟨⟨h1, h2, h3⟩, h4, h5, h6, h7, h8⟩, g1, g2, g3, g4, g5⟩ := h
  have e6 := (e 6 (by decide)).2.1 (by decide)
  have e7 := (e 7 (by decide)).2.1 (by decide)
  refine ⟨⟨⟨(e 0 (by decide)).1.trans h1, (e 5 (by decide)).1.trans h2, (congrArg zI (e 8 (by decide)).1).trans h3⟩, h4.b4 e, fun s hs hf i hi => ?_, ?_, (congrFun e7 1).trans h7, (congrFun e7 2).trans h8⟩,
    g1.cg ⟨⟨(e 16 (by decide)).1, (e 17 (by decide)).1, (e 21 (by decide)).1, (e 24 (by decide)).1⟩, ⟨(e 18 (by decide)).2.1 (by decide), (e 19 (by decide)).2.1 (by decide), (e 22 (by decide)).2.1 (by decide), (e 23 (by decide)).2.1 (by decide)⟩, (e 20 (by decide)).2.2⟩,
    fun s hs => (g2 s hs).cg' ⟨(e 9 (by decide)).2.1 (by decide), (e 10 (by decide)).2.1 (by decide), (e 11 (by decide)).2.2⟩,
    fun j hj => (congrFun ((e 15 (by decide)).2.1 (by decide)) j).trans (g3 j hj), (e 12 (by decide)).1.trans g4, g5.cg ⟨(e 13 (by decide)).1, (e 14 (by decide)).2.1 (by decide)⟩⟩
  · by_cases hsr : s = r
    · subst hsr; exact hon hf i hi
    · rw [hoff _ (by omega)]; exact h5 s (by omega) hf i hi
  · unfold mRk; rw [e6]; exact h6
theorem wRule_ok {w : aW} {what v : Int} (k : wOK w) (hv : (what = 0 ∧ 1 ≤ v ∧ v ≤ 9) ∨ (what = 1 ∧ 0 ≤ v ∧ v ≤ 99) ∨ (what = 2 ∧ 0 ≤ v ∧ v ≤ 20)) : wOK (wRule w what v) := by
  refine ⟨k.n, fun r hr => k.tx hr, k.fo, k.m, fun m hm => k.rm hm, ?_⟩
  have := k.ru
  show 1 ≤ (if what = 0 then v.toNat else wRun w) ∧ (if what = 0 then v.toNat else wRun w) ≤ 9 ∧ (if what = 1 then v.toNat else wNeed w) ≤ 99 ∧ (if what = 2 then v.toNat else wMar w) ≤ 20
  (repeat' split) <;> omega
theorem mX.rule {S : mS} {a : aS} {what v : Int} {j : Nat} (h : mX S a) (hj : what = j ∧ j ≤ 2 ∧ 0 ≤ v) (hk : Nat) (hhk : hk = 0 ∨ (j ≠ 0 ∧ hk = wN (aWd a))) : mXk (sA S 7 j v) (aSetW a (wRule (aWd a) what v)) hk := by
  obtain ⟨⟨⟨h1, h2, h3⟩, h4, h5, h6, h7, h8⟩, g1, g2, g3, g4, g5⟩ := h
  have e7 : ∀ i, (sA S 7 j v).2.1 7 i = if i = j then v else S.2.1 7 i := fun i => by
    by_cases hij : i = j
    · subst hij; rw [sA_s, if_pos rfl]
    · rw [sA_n hij, if_neg hij]
  have hr := h4.2
  refine ⟨⟨⟨h1, h2, h3⟩, ⟨fun r hr => h4.1 r hr, ?_⟩, fun s hs hf i hi => ?_, h6, ?_, ?_⟩, g1.cg ⟨⟨rfl, rfl, rfl, rfl⟩, ⟨rfl, rfl, rfl, rfl⟩, rfl⟩, fun s hs => (g2 s hs).cg' ⟨rfl, rfl, rfl⟩, g3, g4, g5.cg ⟨rfl, rfl⟩⟩
  · rw [e7]; show _ = ((if what = 0 then v.toNat else wRun (aWd a) : Nat) : Int)
    (repeat' split) <;> omega
  · rcases hhk with q | ⟨q, q2⟩
    · omega
    · subst q2
      rw [show cmR (aWd (aSetW a (wRule (aWd a) what v))) s i = cmR (aWd a) s i from ?_]
      · exact h5 s hs hf i hi
      · show cmR (wRule (aWd a) what v) s i = _
        unfold cmR
        show (match wFo (aWd a) s with | none => none | some f => mPlace (wTx (aWd a) f) (wTx (aWd a) s) (if what = 0 then v.toNat else wRun (aWd a)) i) = _
        rw [if_neg (by omega)]
        rfl
  · rw [e7]; show _ = ((if what = 1 then v.toNat else wNeed (aWd a) : Nat) : Int)
    (repeat' split) <;> omega
  · rw [e7]; show _ = ((if what = 2 then v.toNat else wMar (aWd a) : Nat) : Int)
    (repeat' split) <;> omega
set_option maxHeartbeats 4000000 in
theorem metX4_comesTo {l : Launch} {X : gX} {mo : Nat} {ad : Nat → Nat} {S : mS} {w : aW} {fo : Option Nat} {t : Tx} (hO : mO S w) (hK : wOK w) (hn : wN w < 16) (hf : ∀ f, fo = some f → f < wN w) (ht : txOK t) (hl9 : S.2.1 2 (wN w) = (t.length : Nat)) (hi9 : ∀ i, i < t.length → S.2.2 3 (24 * wN w + i) = lnZ (t.getD i [])) : Met l yX4_comesTo (ws_ yX4_comesTo cX4_comesTo 2 (some FieldType.int)) ({ frames := 5, cells := 0, slots := 0, locals := 122 }) (mP X mo ad S [.ref mo, .int (zI (oI fo))]) (mQi X mo ad (fun u T => u = zI (wN w : Nat) ∧ mO T (wAdd w fo t) ∧ mK14 S T)) 0 0 (mA mo ad) := by
  refine Met.m (by decide) (Nat.le_of_ble_eq_true rfl) ?_
  intro p e s m below meth c ls hx hb hr hts hown hlocks hml hG hl
  have hl : lv_has ls 2 [(0, .ref mo), (1, .int (zI (oI fo)))] := hl
  have hkn := hO.n
  have hRv := hO.rv.add (fo := fo) hl9 hi9
  have hKA := hK.add hn hf ht
  refine lv_aload_n hx hb dX4_comesTo_0 rfl (lv_at hl 0 rfl) ?_
  refine m_get 1 (by decide) (v := .ref (ad 1)) rfl hx hb hts hown hG (hts _ q3297) dX4_comesTo_1 ?_
  refine lv_aload_n hx hb dX4_comesTo_4 rfl (lv_at hl 0 rfl) ?_
  refine m_get 0 (by decide) (v := .int (zI (wN w : Int))) (congrArg (fun z => Value.int (zI z)) hO.n) hx hb hts hown hG (hts _ q3296) dX4_comesTo_5 ?_
  refine lv_iload_n hx hb dX4_comesTo_8 rfl (lv_at hl 1 rfl) ?_
  refine m_iast 1 rfl rfl (by decide) (wN w) ⟨by omega, by show _ < 16; omega⟩ hx hb hG dX4_comesTo_9 (fun H locs (hG : mW X mo ad (sA S 1 (wN w) (oI fo)) s H locs) => ?_)
  refine lv_aload_n hx hb dX4_comesTo_10 rfl (lv_at hl 0 rfl) ?_
  refine lv_aload_n hx hb dX4_comesTo_11 rfl (lv_at hl 0 rfl) ?_
  refine m_get 0 (by decide) (v := .int (zI (wN w : Int))) (congrArg (fun z => Value.int (zI z)) (show (sA S 1 (wN w) (oI fo)).1 0 = _ from hO.n)) hx hb hts hown hG (hts _ q3296) dX4_comesTo_12 ?_
  refine m_cv (va_runV (As := [.int (zI (wN w : Int))]) (rest := []) ⟨hx, hb, hml, hown, hts⟩ (metX4_learns hRv hKA (Nat.lt_succ_self _)) (cwV 1 hts (lw_V q3497 q3499 qs52 q102 q3500) rfl rfl rfl (by decide +kernel) ⟨Nat.le_of_ble_eq_true rfl, Nat.le_of_ble_eq_true rfl⟩) (m_preV hG) rfl rfl hl.1 rfl (lv_room (Nat.le_of_ble_eq_true rfl)) dX4_comesTo_15 ⟨Nat.le_of_ble_eq_true rfl, Nat.le_of_ble_eq_true rfl⟩) hG (fun S_2 H locs hp hG => ?_)
  obtain ⟨hb4, hoff, hon⟩ := hp
  have hG : mW X mo ad S_2 s H locs := hG
  refine lv_aload_n hx hb dX4_comesTo_18 rfl (lv_at hl 0 rfl) ?_
  refine lv_dup hx hb dX4_comesTo_19 rfl ?_
  refine m_get 0 (by decide) (v := .int (zI (wN w : Int))) (congrArg (fun z => Value.int (zI z)) ((hb4 0 (by decide)).1.trans hO.n)) hx hb hts hown hG (hts _ q3296) dX4_comesTo_20 ?_
  refine lv_dup_x1 hx hb dX4_comesTo_23 rfl rfl ?_
  refine lv_iconst (v := zI 1) hx hb dX4_comesTo_24 (by decide +kernel) ?_
  refine g_iadd hx hb dX4_comesTo_25 ?_
  refine m_put 0 (by decide) rfl rfl (tyX4_ok 0 (by decide)) rfl rfl hx hb hts hown hG (hts _ q3296) dX4_comesTo_26 (fun H locs (hG : mW X mo ad (sI S_2 0 ((wN w : Int) + 1)) s H locs) => ?_)
  exact m_iret hx hb hr hlocks hG (by obtain ⟨q1, q2⟩ := mO.add hO hK hRv hb4 hoff hon (U := (sI S_2 0 ((wN w : Int) + 1))) rfl; exact ⟨rfl, q1, q2⟩) ⟨Nat.le_of_ble_eq_true rfl, Nat.le_of_ble_eq_true rfl⟩ dX4_comesTo_29

set_option maxHeartbeats 4000000 in
theorem metX4_place {l : Launch} {X : gX} {mo : Nat} {ad : Nat → Nat} {S : mS} {a : aS} (hX : mX S a) (hA : aOK a) {x y i : Int} (hr0 : -2147483648 ≤ x ∧ x < 2147483648 ∧ -2147483648 ≤ y ∧ y < 2147483648 ∧ -2147483648 ≤ i ∧ i < 2147483648) : Met l yX4_place (ws_ yX4_place cX4_place 4 (some FieldType.int)) ({ frames := 4, cells := 0, slots := 0, locals := 100 }) (mP X mo ad S [.ref mo, .int (zI x), .int (zI y), .int (zI i)]) (mQi X mo ad (fun u T => u = zI (opPlace a x y i).1 ∧ mX T (opPlace a x y i).2)) 0 0 (mA mo ad) := by
  refine Met.m (by decide) (Nat.le_of_ble_eq_true rfl) ?_
  intro p e s m below meth c ls hx hb hr hts hown hlocks hml hG hl
  have hl : lv_has ls 4 [(0, .ref mo), (1, .int (zI x)), (2, .int (zI y)), (3, .int (zI i))] := hl
  refine lv_aload_n hx hb dX4_place_0 rfl (lv_at hl 0 rfl) ?_
  refine lv_iload_n hx hb dX4_place_1 rfl (lv_at hl 1 rfl) ?_
  have hq1 := hX.o.n
  have hQ1 := hA.w.n
  refine m_ci (va_runV (As := [.int (zI x)]) (rest := []) ⟨hx, hb, hml, hown, hts⟩ (metX4_isRevision (by omega) (by omega)) (cwV 1 hts (lw_V q3481 q3483 qs48 q102 q3484) rfl rfl rfl (by decide +kernel) ⟨Nat.le_of_ble_eq_true rfl, Nat.le_of_ble_eq_true rfl⟩) (m_preV hG) rfl rfl hl.1 rfl (lv_room (Nat.le_of_ble_eq_true rfl)) dX4_place_2 ⟨Nat.le_of_ble_eq_true rfl, Nat.le_of_ble_eq_true rfl⟩) hG (fun r_1 S_2 H locs hp hG => ?_)
  obtain ⟨b1, rfl, hb1, rfl⟩ := hp
  have hG : mW X mo ad S s H locs := hG
  refine g_eq (tgt := 16) hx hb dX4_place_5 (by decide) (by omega) (fun h2 => ?_) (fun h2 => ?_)
  · refine lv_aload_n hx hb dX4_place_16 rfl (lv_at hl 0 rfl) ?_
    refine lv_iconst (v := zI (-1)) hx hb dX4_place_17 (by decide +kernel) ?_
    refine g_topz (y := -((1 : Nat) : Int)) (by decide) ?_
    refine m_ci (va_runV (As := [.int (zI (-((1 : Nat) : Int)))]) (rest := []) ⟨hx, hb, hml, hown, hts⟩ (metX4_no10 1 (by decide)) (cwV 1 hts (lw_V q3543 q3545 qs59 q102 q3546) rfl rfl rfl (by decide +kernel) ⟨Nat.le_of_ble_eq_true rfl, Nat.le_of_ble_eq_true rfl⟩) (m_preV hG) rfl rfl hl.1 rfl (lv_room (Nat.le_of_ble_eq_true rfl)) dX4_place_18 ⟨Nat.le_of_ble_eq_true rfl, Nat.le_of_ble_eq_true rfl⟩) hG (fun r_3 S_4 H locs hp hG => ?_)
    obtain ⟨rfl, rfl⟩ := hp
    have hG : mW X mo ad (mNo S 1) s H locs := hG
    exact m_iret hx hb hr hlocks hG (by first | (exfalso; omega) | exact (hX.noT 1 (by unfold opPlace; all_goals ((repeat (first | rw [if_pos (by omega)] | rw [if_neg (by omega)])) <;> rfl)))) ⟨Nat.le_of_ble_eq_true rfl, Nat.le_of_ble_eq_true rfl⟩ dX4_place_21
  · refine lv_aload_n hx hb dX4_place_8 rfl (lv_at hl 0 rfl) ?_
    refine lv_iload_n hx hb dX4_place_9 rfl (lv_at hl 2 rfl) ?_
    have hq3 := hX.o.n
    have hQ3 := hA.w.n
    refine m_ci (va_runV (As := [.int (zI y)]) (rest := []) ⟨hx, hb, hml, hown, hts⟩ (metX4_isRevision (by omega) (by omega)) (cwV 1 hts (lw_V q3481 q3483 qs48 q102 q3484) rfl rfl rfl (by decide +kernel) ⟨Nat.le_of_ble_eq_true rfl, Nat.le_of_ble_eq_true rfl⟩) (m_preV hG) rfl rfl hl.1 rfl (lv_room (Nat.le_of_ble_eq_true rfl)) dX4_place_10 ⟨Nat.le_of_ble_eq_true rfl, Nat.le_of_ble_eq_true rfl⟩) hG (fun r_5 S_6 H locs hp hG => ?_)
    obtain ⟨b3, rfl, hb3, rfl⟩ := hp
    have hG : mW X mo ad S s H locs := hG
    refine g_ne (tgt := 22) hx hb dX4_place_13 (by decide) (by omega) (fun h4 => ?_) (fun h4 => ?_)
    · obtain ⟨x1, rfl⟩ : ∃ n9 : Nat, x = n9 := ⟨x.toNat, by omega⟩
      obtain ⟨y1, rfl⟩ : ∃ n9 : Nat, y = n9 := ⟨y.toNat, by omega⟩
      refine lv_aload_n hx hb dX4_place_22 rfl (lv_at hl 0 rfl) ?_
      refine lv_iload_n hx hb dX4_place_23 rfl (lv_at hl 1 rfl) ?_
      refine lv_iload_n hx hb dX4_place_24 rfl (lv_at hl 3 rfl) ?_
      have hq5 := hX.o.len (r := x1) (by omega)
      have hQ5 := (hA.w.tx (r := x1) (by omega)).1
      refine m_ci (va_runV (As := [.int (zI (x1 : Int)), .int (zI i)]) (rest := []) ⟨hx, hb, hml, hown, hts⟩ (metX4_isLine (r := x1) (by omega) ⟨by omega, by omega, by omega⟩) (cwV 2 hts (lw_V q3534 q3536 qs58 q102 q3537) rfl rfl rfl (by decide +kernel) ⟨Nat.le_of_ble_eq_true rfl, Nat.le_of_ble_eq_true rfl⟩) (m_preV hG) rfl rfl hl.1 rfl (lv_room (Nat.le_of_ble_eq_true rfl)) dX4_place_25 ⟨Nat.le_of_ble_eq_true rfl, Nat.le_of_ble_eq_true rfl⟩) hG (fun r_7 S_8 H locs hp hG => ?_)
      obtain ⟨b5, rfl, hb5, rfl⟩ := hp
      have hG : mW X mo ad S s H locs := hG
      rw [hq5] at hb5
      refine g_ne (tgt := 38) hx hb dX4_place_28 (by decide) (by omega) (fun h6 => ?_) (fun h6 => ?_)
      · obtain ⟨i1, rfl⟩ : ∃ n9 : Nat, i = n9 := ⟨i.toNat, by omega⟩
        refine lv_aload_n hx hb dX4_place_38 rfl (lv_at hl 0 rfl) ?_
        refine lv_iload_n hx hb dX4_place_39 rfl (lv_at hl 1 rfl) ?_
        refine lv_iload_n hx hb dX4_place_40 rfl (lv_at hl 2 rfl) ?_
        have hR := hX.o.rv
        have hK := hA.w
        refine m_cv (va_runV (As := [.int (zI (x1 : Int)), .int (zI (y1 : Int))]) (rest := []) ⟨hx, hb, hml, hown, hts⟩ (metX4_places (al := alk (wTx (aWd a) x1) (wTx (aWd a) y1)) (by have := hK.n; omega) ⟨hR.len (by omega), (hK.tx (by omega)).1⟩ ⟨hR.len (by omega), (hK.tx (by omega)).1⟩ (fun i j h1 h2 => hR.al hK (by omega) (by omega) h1 h2) (r := wRun (aWd a)) ⟨hR.2, hK.ru.1, hK.ru.2.1⟩) (cwV 2 hts (lw_V q3501 q3503 qs53 q102 q3504) rfl rfl rfl (by decide +kernel) ⟨Nat.le_of_ble_eq_true rfl, Nat.le_of_ble_eq_true rfl⟩) (m_preV hG) rfl rfl hl.1 rfl (lv_room (Nat.le_of_ble_eq_true rfl)) dX4_place_41 ⟨Nat.le_of_ble_eq_true rfl, Nat.le_of_ble_eq_true rfl⟩) hG (fun S_10 H locs hp hG => ?_)
        obtain ⟨hre, hpl, hpa, hmo⟩ := hp
        have hG : mW X mo ad S_10 s H locs := hG
        refine lv_aload_n hx hb dX4_place_44 rfl (lv_at hl 0 rfl) ?_
        refine m_get 26 (by decide) (v := .ref (ad 26)) rfl hx hb hts hown hG (hts _ q3322) dX4_place_45 ?_
        refine lv_iload_n hx hb dX4_place_48 rfl (lv_at hl 3 rfl) ?_
        refine m_iald 26 rfl rfl (by decide) i1 (v := (oI (mPlace (wTx (aWd a) x1) (wTx (aWd a) y1) (wRun (aWd a)) i1))) ⟨by omega, by show _ < 24; omega⟩ (hpl i1 (by omega)) hx hb hG dX4_place_49 ?_
        exact m_iret hx hb hr hlocks hG (by first | (exfalso; omega) | exact ((mX.cast ((by unfold opPlace; unfold aLn; simp only [Int.toNat_natCast]; all_goals ((repeat (first | rw [if_pos (by omega)] | rw [if_neg (by omega)])) <;> rfl))) (hX.real hre)))) ⟨Nat.le_of_ble_eq_true rfl, Nat.le_of_ble_eq_true rfl⟩ dX4_place_50
      · refine lv_aload_n hx hb dX4_place_31 rfl (lv_at hl 0 rfl) ?_
        refine lv_bipush (v := zI (-5)) hx hb dX4_place_32 (by decide +kernel) ?_
        refine g_topz (y := -((5 : Nat) : Int)) (by decide) ?_
        refine m_ci (va_runV (As := [.int (zI (-((5 : Nat) : Int)))]) (rest := []) ⟨hx, hb, hml, hown, hts⟩ (metX4_no10 5 (by decide)) (cwV 1 hts (lw_V q3543 q3545 qs59 q102 q3546) rfl rfl rfl (by decide +kernel) ⟨Nat.le_of_ble_eq_true rfl, Nat.le_of_ble_eq_true rfl⟩) (m_preV hG) rfl rfl hl.1 rfl (lv_room (Nat.le_of_ble_eq_true rfl)) dX4_place_34 ⟨Nat.le_of_ble_eq_true rfl, Nat.le_of_ble_eq_true rfl⟩) hG (fun r_11 S_12 H locs hp hG => ?_)
        obtain ⟨rfl, rfl⟩ := hp
        have hG : mW X mo ad (mNo S 5) s H locs := hG
        exact m_iret hx hb hr hlocks hG (by first | (exfalso; omega) | exact (hX.noT 5 (by unfold opPlace; (repeat (first | rw [if_pos (by omega)] | rw [if_neg (by omega)])); all_goals (try (unfold aLn; simp only [Int.toNat_natCast])); all_goals ((repeat (first | rw [if_pos (by omega)] | rw [if_neg (by omega)])) <;> rfl)))) ⟨Nat.le_of_ble_eq_true rfl, Nat.le_of_ble_eq_true rfl⟩ dX4_place_37
    · refine lv_aload_n hx hb dX4_place_16 rfl (lv_at hl 0 rfl) ?_
      refine lv_iconst (v := zI (-1)) hx hb dX4_place_17 (by decide +kernel) ?_
      refine g_topz (y := -((1 : Nat) : Int)) (by decide) ?_
      refine m_ci (va_runV (As := [.int (zI (-((1 : Nat) : Int)))]) (rest := []) ⟨hx, hb, hml, hown, hts⟩ (metX4_no10 1 (by decide)) (cwV 1 hts (lw_V q3543 q3545 qs59 q102 q3546) rfl rfl rfl (by decide +kernel) ⟨Nat.le_of_ble_eq_true rfl, Nat.le_of_ble_eq_true rfl⟩) (m_preV hG) rfl rfl hl.1 rfl (lv_room (Nat.le_of_ble_eq_true rfl)) dX4_place_18 ⟨Nat.le_of_ble_eq_true rfl, Nat.le_of_ble_eq_true rfl⟩) hG (fun r_13 S_14 H locs hp hG => ?_)
      obtain ⟨rfl, rfl⟩ := hp
      have hG : mW X mo ad (mNo S 1) s H locs := hG
      exact m_iret hx hb hr hlocks hG (by first | (exfalso; omega) | exact (hX.noT 1 (by unfold opPlace; all_goals ((repeat (first | rw [if_pos (by omega)] | rw [if_neg (by omega)])) <;> rfl)))) ⟨Nat.le_of_ble_eq_true rfl, Nat.le_of_ble_eq_true rfl⟩ dX4_place_21

set_option maxHeartbeats 4000000 in
theorem metX4_matched {l : Launch} {X : gX} {mo : Nat} {ad : Nat → Nat} {S : mS} {a : aS} (hX : mX S a) (hA : aOK a) {x y i : Int} (hr0 : -2147483648 ≤ x ∧ x < 2147483648 ∧ -2147483648 ≤ y ∧ y < 2147483648 ∧ -2147483648 ≤ i ∧ i < 2147483648) : Met l yX4_matched (ws_ yX4_matched cX4_matched 4 (some FieldType.int)) ({ frames := 4, cells := 0, slots := 0, locals := 100 }) (mP X mo ad S [.ref mo, .int (zI x), .int (zI y), .int (zI i)]) (mQi X mo ad (fun u T => u = zI (opMatched a x y i).1 ∧ mX T (opMatched a x y i).2)) 0 0 (mA mo ad) := by
  refine Met.m (by decide) (Nat.le_of_ble_eq_true rfl) ?_
  intro p e s m below meth c ls hx hb hr hts hown hlocks hml hG hl
  have hl : lv_has ls 4 [(0, .ref mo), (1, .int (zI x)), (2, .int (zI y)), (3, .int (zI i))] := hl
  refine lv_aload_n hx hb dX4_matched_0 rfl (lv_at hl 0 rfl) ?_
  refine lv_iload_n hx hb dX4_matched_1 rfl (lv_at hl 1 rfl) ?_
  have hq1 := hX.o.n
  have hQ1 := hA.w.n
  refine m_ci (va_runV (As := [.int (zI x)]) (rest := []) ⟨hx, hb, hml, hown, hts⟩ (metX4_isRevision (by omega) (by omega)) (cwV 1 hts (lw_V q3481 q3483 qs48 q102 q3484) rfl rfl rfl (by decide +kernel) ⟨Nat.le_of_ble_eq_true rfl, Nat.le_of_ble_eq_true rfl⟩) (m_preV hG) rfl rfl hl.1 rfl (lv_room (Nat.le_of_ble_eq_true rfl)) dX4_matched_2 ⟨Nat.le_of_ble_eq_true rfl, Nat.le_of_ble_eq_true rfl⟩) hG (fun r_1 S_2 H locs hp hG => ?_)
  obtain ⟨b1, rfl, hb1, rfl⟩ := hp
  have hG : mW X mo ad S s H locs := hG
  refine g_eq (tgt := 16) hx hb dX4_matched_5 (by decide) (by omega) (fun h2 => ?_) (fun h2 => ?_)
  · refine lv_aload_n hx hb dX4_matched_16 rfl (lv_at hl 0 rfl) ?_
    refine lv_iconst (v := zI (-1)) hx hb dX4_matched_17 (by decide +kernel) ?_
    refine g_topz (y := -((1 : Nat) : Int)) (by decide) ?_
    refine m_ci (va_runV (As := [.int (zI (-((1 : Nat) : Int)))]) (rest := []) ⟨hx, hb, hml, hown, hts⟩ (metX4_no 1 (by decide)) (cwV 1 hts (lw_V q3427 q3429 qs43 q102 q3430) rfl rfl rfl (by decide +kernel) ⟨Nat.le_of_ble_eq_true rfl, Nat.le_of_ble_eq_true rfl⟩) (m_preV hG) rfl rfl hl.1 rfl (lv_room (Nat.le_of_ble_eq_true rfl)) dX4_matched_18 ⟨Nat.le_of_ble_eq_true rfl, Nat.le_of_ble_eq_true rfl⟩) hG (fun r_3 S_4 H locs hp hG => ?_)
    obtain ⟨rfl, rfl⟩ := hp
    have hG : mW X mo ad (mNo S 1) s H locs := hG
    exact m_iret hx hb hr hlocks hG (by first | (exfalso; omega) | exact (hX.noR 1 (by unfold opMatched; all_goals ((repeat (first | rw [if_pos (by omega)] | rw [if_neg (by omega)])) <;> rfl)))) ⟨Nat.le_of_ble_eq_true rfl, Nat.le_of_ble_eq_true rfl⟩ dX4_matched_21
  · refine lv_aload_n hx hb dX4_matched_8 rfl (lv_at hl 0 rfl) ?_
    refine lv_iload_n hx hb dX4_matched_9 rfl (lv_at hl 2 rfl) ?_
    have hq3 := hX.o.n
    have hQ3 := hA.w.n
    refine m_ci (va_runV (As := [.int (zI y)]) (rest := []) ⟨hx, hb, hml, hown, hts⟩ (metX4_isRevision (by omega) (by omega)) (cwV 1 hts (lw_V q3481 q3483 qs48 q102 q3484) rfl rfl rfl (by decide +kernel) ⟨Nat.le_of_ble_eq_true rfl, Nat.le_of_ble_eq_true rfl⟩) (m_preV hG) rfl rfl hl.1 rfl (lv_room (Nat.le_of_ble_eq_true rfl)) dX4_matched_10 ⟨Nat.le_of_ble_eq_true rfl, Nat.le_of_ble_eq_true rfl⟩) hG (fun r_5 S_6 H locs hp hG => ?_)
    obtain ⟨b3, rfl, hb3, rfl⟩ := hp
    have hG : mW X mo ad S s H locs := hG
    refine g_ne (tgt := 22) hx hb dX4_matched_13 (by decide) (by omega) (fun h4 => ?_) (fun h4 => ?_)
    · obtain ⟨x1, rfl⟩ : ∃ n9 : Nat, x = n9 := ⟨x.toNat, by omega⟩
      obtain ⟨y1, rfl⟩ : ∃ n9 : Nat, y = n9 := ⟨y.toNat, by omega⟩
      refine lv_iload_n hx hb dX4_matched_22 rfl (lv_at hl 3 rfl) ?_
      refine lv_iconst (v := zI 0) hx hb dX4_matched_23 (by decide +kernel) ?_
      refine lv_iconst (v := zI 1) hx hb dX4_matched_24 (by decide +kernel) ?_
      refine m_ci (va_runS (As := [.int (zI i), .int (zI 0), .int (zI 1)]) (rest := []) ⟨hx, hb, hml, hown, hts⟩ (metX4_within (by omega)) (va_cwS 3 hts (lw_S q3424 q3425 q102 q3426) rfl rfl rfl (by decide +kernel) ⟨Nat.le_of_ble_eq_true rfl, Nat.le_of_ble_eq_true rfl⟩) (m_preS hG) rfl rfl hl.1 rfl (lv_room (Nat.le_of_ble_eq_true rfl)) dX4_matched_25 ⟨Nat.le_of_ble_eq_true rfl, Nat.le_of_ble_eq_true rfl⟩) hG (fun r_7 S_8 H locs hp hG => ?_)
      obtain ⟨bw5, rfl, hbw5, rfl⟩ := hp
      have hG : mW X mo ad S s H locs := hG
      refine g_ne (tgt := 38) hx hb dX4_matched_28 (by decide) (by omega) (fun h6 => ?_) (fun h6 => ?_)
      · refine lv_aload_n hx hb dX4_matched_38 rfl (lv_at hl 0 rfl) ?_
        refine lv_iload_n hx hb dX4_matched_39 rfl (lv_at hl 1 rfl) ?_
        refine lv_iload_n hx hb dX4_matched_40 rfl (lv_at hl 2 rfl) ?_
        have hR := hX.o.rv
        have hK := hA.w
        refine m_cv (va_runV (As := [.int (zI (x1 : Int)), .int (zI (y1 : Int))]) (rest := []) ⟨hx, hb, hml, hown, hts⟩ (metX4_places (al := alk (wTx (aWd a) x1) (wTx (aWd a) y1)) (by have := hK.n; omega) ⟨hR.len (by omega), (hK.tx (by omega)).1⟩ ⟨hR.len (by omega), (hK.tx (by omega)).1⟩ (fun i j h1 h2 => hR.al hK (by omega) (by omega) h1 h2) (r := wRun (aWd a)) ⟨hR.2, hK.ru.1, hK.ru.2.1⟩) (cwV 2 hts (lw_V q3501 q3503 qs53 q102 q3504) rfl rfl rfl (by decide +kernel) ⟨Nat.le_of_ble_eq_true rfl, Nat.le_of_ble_eq_true rfl⟩) (m_preV hG) rfl rfl hl.1 rfl (lv_room (Nat.le_of_ble_eq_true rfl)) dX4_matched_41 ⟨Nat.le_of_ble_eq_true rfl, Nat.le_of_ble_eq_true rfl⟩) hG (fun S_10 H locs hp hG => ?_)
        obtain ⟨hre, hpl, hpa, hmo⟩ := hp
        have hG : mW X mo ad S_10 s H locs := hG
        refine lv_iload_n hx hb dX4_matched_44 rfl (lv_at hl 3 rfl) ?_
        refine g_ne (tgt := 55) hx hb dX4_matched_45 (by decide) (by omega) (fun h7 => ?_) (fun h7 => ?_)
        · refine lv_aload_n hx hb dX4_matched_55 rfl (lv_at hl 0 rfl) ?_
          refine m_get 29 (by decide) (v := .int (zI (mMoved (wTx (aWd a) x1) (wTx (aWd a) y1) (wRun (aWd a)) : Nat))) (congrArg (fun z => Value.int (zI z)) hmo) hx hb hts hown hG (hts _ q3325) dX4_matched_56 ?_
          exact m_iret hx hb hr hlocks hG (by first | (exfalso; omega) | exact ((mX.cast ((by unfold opMatched; simp only [Int.toNat_natCast]; all_goals ((repeat (first | rw [if_pos (by omega)] | rw [if_neg (by omega)])) <;> rfl))) (hX.real hre)))) ⟨Nat.le_of_ble_eq_true rfl, Nat.le_of_ble_eq_true rfl⟩ dX4_matched_59
        · refine lv_aload_n hx hb dX4_matched_48 rfl (lv_at hl 0 rfl) ?_
          refine m_get 28 (by decide) (v := .int (zI (mPairs (wTx (aWd a) x1) (wTx (aWd a) y1) : Nat))) (congrArg (fun z => Value.int (zI z)) hpa) hx hb hts hown hG (hts _ q3324) dX4_matched_49 ?_
          refine lv_goto (tgt := 59) hx hb dX4_matched_52 (by decide) ?_
          exact m_iret hx hb hr hlocks hG (by first | (exfalso; omega) | exact ((mX.cast ((by unfold opMatched; simp only [Int.toNat_natCast]; all_goals ((repeat (first | rw [if_pos (by omega)] | rw [if_neg (by omega)])) <;> rfl))) (hX.real hre)))) ⟨Nat.le_of_ble_eq_true rfl, Nat.le_of_ble_eq_true rfl⟩ dX4_matched_59
      · refine lv_aload_n hx hb dX4_matched_31 rfl (lv_at hl 0 rfl) ?_
        refine lv_bipush (v := zI (-5)) hx hb dX4_matched_32 (by decide +kernel) ?_
        refine g_topz (y := -((5 : Nat) : Int)) (by decide) ?_
        refine m_ci (va_runV (As := [.int (zI (-((5 : Nat) : Int)))]) (rest := []) ⟨hx, hb, hml, hown, hts⟩ (metX4_no 5 (by decide)) (cwV 1 hts (lw_V q3427 q3429 qs43 q102 q3430) rfl rfl rfl (by decide +kernel) ⟨Nat.le_of_ble_eq_true rfl, Nat.le_of_ble_eq_true rfl⟩) (m_preV hG) rfl rfl hl.1 rfl (lv_room (Nat.le_of_ble_eq_true rfl)) dX4_matched_34 ⟨Nat.le_of_ble_eq_true rfl, Nat.le_of_ble_eq_true rfl⟩) hG (fun r_11 S_12 H locs hp hG => ?_)
        obtain ⟨rfl, rfl⟩ := hp
        have hG : mW X mo ad (mNo S 5) s H locs := hG
        exact m_iret hx hb hr hlocks hG (by first | (exfalso; omega) | exact (hX.noR 5 (by unfold opMatched; (repeat (first | rw [if_pos (by omega)] | rw [if_neg (by omega)])); all_goals (try (simp only [Int.toNat_natCast])); all_goals ((repeat (first | rw [if_pos (by omega)] | rw [if_neg (by omega)])) <;> rfl)))) ⟨Nat.le_of_ble_eq_true rfl, Nat.le_of_ble_eq_true rfl⟩ dX4_matched_37
    · refine lv_aload_n hx hb dX4_matched_16 rfl (lv_at hl 0 rfl) ?_
      refine lv_iconst (v := zI (-1)) hx hb dX4_matched_17 (by decide +kernel) ?_
      refine g_topz (y := -((1 : Nat) : Int)) (by decide) ?_
      refine m_ci (va_runV (As := [.int (zI (-((1 : Nat) : Int)))]) (rest := []) ⟨hx, hb, hml, hown, hts⟩ (metX4_no 1 (by decide)) (cwV 1 hts (lw_V q3427 q3429 qs43 q102 q3430) rfl rfl rfl (by decide +kernel) ⟨Nat.le_of_ble_eq_true rfl, Nat.le_of_ble_eq_true rfl⟩) (m_preV hG) rfl rfl hl.1 rfl (lv_room (Nat.le_of_ble_eq_true rfl)) dX4_matched_18 ⟨Nat.le_of_ble_eq_true rfl, Nat.le_of_ble_eq_true rfl⟩) hG (fun r_13 S_14 H locs hp hG => ?_)
      obtain ⟨rfl, rfl⟩ := hp
      have hG : mW X mo ad (mNo S 1) s H locs := hG
      exact m_iret hx hb hr hlocks hG (by first | (exfalso; omega) | exact (hX.noR 1 (by unfold opMatched; all_goals ((repeat (first | rw [if_pos (by omega)] | rw [if_neg (by omega)])) <;> rfl)))) ⟨Nat.le_of_ble_eq_true rfl, Nat.le_of_ble_eq_true rfl⟩ dX4_matched_21

set_option maxHeartbeats 4000000 in
theorem metX4_lines {l : Launch} {X : gX} {mo : Nat} {ad : Nat → Nat} {S : mS} {a : aS} (hX : mX S a) (hA : aOK a) {x : Int} (hr0 : -2147483648 ≤ x ∧ x < 2147483648) : Met l yX4_lines (ws_ yX4_lines cX4_lines 2 (some FieldType.int)) ({ frames := 2, cells := 0, slots := 0, locals := 43 }) (mP X mo ad S [.ref mo, .int (zI x)]) (mQi X mo ad (fun u T => u = zI (opLines a x).1 ∧ mX T (opLines a x).2)) 0 0 (mA mo ad) := by
  refine Met.m (by decide) (Nat.le_of_ble_eq_true rfl) ?_
  intro p e s m below meth c ls hx hb hr hts hown hlocks hml hG hl
  have hl : lv_has ls 2 [(0, .ref mo), (1, .int (zI x))] := hl
  refine lv_aload_n hx hb dX4_lines_0 rfl (lv_at hl 0 rfl) ?_
  refine lv_iload_n hx hb dX4_lines_1 rfl (lv_at hl 1 rfl) ?_
  have hq1 := hX.o.n
  have hQ1 := hA.w.n
  refine m_ci (va_runV (As := [.int (zI x)]) (rest := []) ⟨hx, hb, hml, hown, hts⟩ (metX4_isRevision (by omega) (by omega)) (cwV 1 hts (lw_V q3481 q3483 qs48 q102 q3484) rfl rfl rfl (by decide +kernel) ⟨Nat.le_of_ble_eq_true rfl, Nat.le_of_ble_eq_true rfl⟩) (m_preV hG) rfl rfl hl.1 rfl (lv_room (Nat.le_of_ble_eq_true rfl)) dX4_lines_2 ⟨Nat.le_of_ble_eq_true rfl, Nat.le_of_ble_eq_true rfl⟩) hG (fun r_1 S_2 H locs hp hG => ?_)
  obtain ⟨b1, rfl, hb1, rfl⟩ := hp
  have hG : mW X mo ad S s H locs := hG
  refine g_eq (tgt := 17) hx hb dX4_lines_5 (by decide) (by omega) (fun h2 => ?_) (fun h2 => ?_)
  · refine lv_aload_n hx hb dX4_lines_17 rfl (lv_at hl 0 rfl) ?_
    refine lv_iconst (v := zI (-1)) hx hb dX4_lines_18 (by decide +kernel) ?_
    refine g_topz (y := -((1 : Nat) : Int)) (by decide) ?_
    refine m_ci (va_runV (As := [.int (zI (-((1 : Nat) : Int)))]) (rest := []) ⟨hx, hb, hml, hown, hts⟩ (metX4_no 1 (by decide)) (cwV 1 hts (lw_V q3427 q3429 qs43 q102 q3430) rfl rfl rfl (by decide +kernel) ⟨Nat.le_of_ble_eq_true rfl, Nat.le_of_ble_eq_true rfl⟩) (m_preV hG) rfl rfl hl.1 rfl (lv_room (Nat.le_of_ble_eq_true rfl)) dX4_lines_19 ⟨Nat.le_of_ble_eq_true rfl, Nat.le_of_ble_eq_true rfl⟩) hG (fun r_3 S_4 H locs hp hG => ?_)
    obtain ⟨rfl, rfl⟩ := hp
    have hG : mW X mo ad (mNo S 1) s H locs := hG
    exact m_iret hx hb hr hlocks hG (by first | (exfalso; omega) | exact (hX.noR 1 (by unfold opLines; all_goals ((repeat (first | rw [if_pos (by omega)] | rw [if_neg (by omega)])) <;> rfl)))) ⟨Nat.le_of_ble_eq_true rfl, Nat.le_of_ble_eq_true rfl⟩ dX4_lines_22
  · obtain ⟨x1, rfl⟩ : ∃ n9 : Nat, x = n9 := ⟨x.toNat, by omega⟩
    refine lv_aload_n hx hb dX4_lines_8 rfl (lv_at hl 0 rfl) ?_
    refine m_get 2 (by decide) (v := .ref (ad 2)) rfl hx hb hts hown hG (hts _ q3298) dX4_lines_9 ?_
    refine lv_iload_n hx hb dX4_lines_12 rfl (lv_at hl 1 rfl) ?_
    refine m_iald 2 rfl rfl (by decide) x1 (v := ((wTx (aWd a) x1).length : Int)) ⟨by omega, by show _ < 17; omega⟩ (hX.o.len (r := x1) (by omega)) hx hb hG dX4_lines_13 ?_
    have hf3_0 := (hA.w.tx (r := x1) (by omega)).1
    refine lv_goto (tgt := 22) hx hb dX4_lines_14 (by decide) ?_
    exact m_iret hx hb hr hlocks hG (by first | (exfalso; omega) | exact (hX.cast (by unfold opLines; all_goals ((repeat (first | rw [if_pos (by omega)] | rw [if_neg (by omega)])) <;> rfl)))) ⟨Nat.le_of_ble_eq_true rfl, Nat.le_of_ble_eq_true rfl⟩ dX4_lines_22

set_option maxHeartbeats 4000000 in
theorem metX4_former {l : Launch} {X : gX} {mo : Nat} {ad : Nat → Nat} {S : mS} {a : aS} (hX : mX S a) (hA : aOK a) {x : Int} (hr0 : -2147483648 ≤ x ∧ x < 2147483648) : Met l yX4_former (ws_ yX4_former cX4_former 2 (some FieldType.int)) ({ frames := 2, cells := 0, slots := 0, locals := 43 }) (mP X mo ad S [.ref mo, .int (zI x)]) (mQi X mo ad (fun u T => u = zI (opFormer a x).1 ∧ mX T (opFormer a x).2)) 0 0 (mA mo ad) := by
  refine Met.m (by decide) (Nat.le_of_ble_eq_true rfl) ?_
  intro p e s m below meth c ls hx hb hr hts hown hlocks hml hG hl
  have hl : lv_has ls 2 [(0, .ref mo), (1, .int (zI x))] := hl
  refine lv_aload_n hx hb dX4_former_0 rfl (lv_at hl 0 rfl) ?_
  refine lv_iload_n hx hb dX4_former_1 rfl (lv_at hl 1 rfl) ?_
  have hq1 := hX.o.n
  have hQ1 := hA.w.n
  refine m_ci (va_runV (As := [.int (zI x)]) (rest := []) ⟨hx, hb, hml, hown, hts⟩ (metX4_isRevision (by omega) (by omega)) (cwV 1 hts (lw_V q3481 q3483 qs48 q102 q3484) rfl rfl rfl (by decide +kernel) ⟨Nat.le_of_ble_eq_true rfl, Nat.le_of_ble_eq_true rfl⟩) (m_preV hG) rfl rfl hl.1 rfl (lv_room (Nat.le_of_ble_eq_true rfl)) dX4_former_2 ⟨Nat.le_of_ble_eq_true rfl, Nat.le_of_ble_eq_true rfl⟩) hG (fun r_1 S_2 H locs hp hG => ?_)
  obtain ⟨b1, rfl, hb1, rfl⟩ := hp
  have hG : mW X mo ad S s H locs := hG
  refine g_eq (tgt := 17) hx hb dX4_former_5 (by decide) (by omega) (fun h2 => ?_) (fun h2 => ?_)
  · refine lv_aload_n hx hb dX4_former_17 rfl (lv_at hl 0 rfl) ?_
    refine lv_iconst (v := zI (-1)) hx hb dX4_former_18 (by decide +kernel) ?_
    refine g_topz (y := -((1 : Nat) : Int)) (by decide) ?_
    refine m_ci (va_runV (As := [.int (zI (-((1 : Nat) : Int)))]) (rest := []) ⟨hx, hb, hml, hown, hts⟩ (metX4_no10 1 (by decide)) (cwV 1 hts (lw_V q3543 q3545 qs59 q102 q3546) rfl rfl rfl (by decide +kernel) ⟨Nat.le_of_ble_eq_true rfl, Nat.le_of_ble_eq_true rfl⟩) (m_preV hG) rfl rfl hl.1 rfl (lv_room (Nat.le_of_ble_eq_true rfl)) dX4_former_19 ⟨Nat.le_of_ble_eq_true rfl, Nat.le_of_ble_eq_true rfl⟩) hG (fun r_3 S_4 H locs hp hG => ?_)
    obtain ⟨rfl, rfl⟩ := hp
    have hG : mW X mo ad (mNo S 1) s H locs := hG
    exact m_iret hx hb hr hlocks hG (by first | (exfalso; omega) | exact (hX.noT 1 (by unfold opFormer; all_goals ((repeat (first | rw [if_pos (by omega)] | rw [if_neg (by omega)])) <;> rfl)))) ⟨Nat.le_of_ble_eq_true rfl, Nat.le_of_ble_eq_true rfl⟩ dX4_former_22
  · obtain ⟨x1, rfl⟩ : ∃ n9 : Nat, x = n9 := ⟨x.toNat, by omega⟩
    refine lv_aload_n hx hb dX4_former_8 rfl (lv_at hl 0 rfl) ?_
    refine m_get 1 (by decide) (v := .ref (ad 1)) rfl hx hb hts hown hG (hts _ q3297) dX4_former_9 ?_
    refine lv_iload_n hx hb dX4_former_12 rfl (lv_at hl 1 rfl) ?_
    refine m_iald 1 rfl rfl (by decide) x1 (v := (oI (wFo (aWd a) x1))) ⟨by omega, by show _ < 16; omega⟩ (hX.o.fo (r := x1) (by omega)) hx hb hG dX4_former_13 ?_
    have hf3_0 := oI_lt (hA.w.fo x1)
    refine lv_goto (tgt := 22) hx hb dX4_former_14 (by decide) ?_
    exact m_iret hx hb hr hlocks hG (by first | (exfalso; omega) | exact (hX.cast (by unfold opFormer; all_goals ((repeat (first | rw [if_pos (by omega)] | rw [if_neg (by omega)])) <;> rfl)))) ⟨Nat.le_of_ble_eq_true rfl, Nat.le_of_ble_eq_true rfl⟩ dX4_former_22

set_option maxHeartbeats 4000000 in
theorem metX4_fault {l : Launch} {X : gX} {mo : Nat} {ad : Nat → Nat} {S : mS} {a : aS} (hX : mX S a) (hA : aOK a) : Met l yX4_fault (ws_ yX4_fault cX4_fault 1 (some FieldType.int)) ({ frames := 0, cells := 0, slots := 0, locals := 0 }) (mP X mo ad S [.ref mo]) (mQi X mo ad (fun u T => u = zI (aFa a) ∧ S = T)) 0 0 (mA mo ad) := by
  refine Met.m (by decide) (Nat.le_of_ble_eq_true rfl) ?_
  intro p e s m below meth c ls hx hb hr hts hown hlocks hml hG hl
  have hl : lv_has ls 1 [(0, .ref mo)] := hl
  refine lv_aload_n hx hb dX4_fault_0 rfl (lv_at hl 0 rfl) ?_
  refine m_get 12 (by decide) (v := .int (zI (S.1 12))) rfl hx hb hts hown hG (hts _ q3308) dX4_fault_1 ?_
  exact m_iret hx hb hr hlocks hG (⟨congrArg zI hX.2.2.2.2.1, rfl⟩) ⟨Nat.le_of_ble_eq_true rfl, Nat.le_of_ble_eq_true rfl⟩ dX4_fault_4

set_option maxHeartbeats 4000000 in
theorem metX4_rule {l : Launch} {X : gX} {mo : Nat} {ad : Nat → Nat} {S : mS} {a : aS} (hX : mX S a) (hA : aOK a) {what v : Int} (hr0 : -2147483648 ≤ what ∧ what < 2147483648 ∧ -2147483648 ≤ v ∧ v < 2147483648) : Met l yX4_rule (ws_ yX4_rule cX4_rule 5 (some FieldType.int)) ({ frames := 5, cells := 0, slots := 0, locals := 122 }) (mP X mo ad S [.ref mo, .int (zI what), .int (zI v)]) (mQi X mo ad (fun u T => u = zI (opRule a what v).1 ∧ mX T (opRule a what v).2)) 0 0 (mA mo ad) := by
  refine Met.m (by decide) (Nat.le_of_ble_eq_true rfl) ?_
  intro p e s m below meth c ls hx hb hr hts hown hlocks hml hG hl
  have hl : lv_has ls 5 [(0, .ref mo), (1, .int (zI what)), (2, .int (zI v))] := hl
  refine lv_iload_n hx hb dX4_rule_0 rfl (lv_at hl 1 rfl) ?_
  refine lv_iconst (v := zI 0) hx hb dX4_rule_1 (by decide +kernel) ?_
  refine lv_iconst (v := zI 2) hx hb dX4_rule_2 (by decide +kernel) ?_
  refine m_ci (va_runS (As := [.int (zI what), .int (zI 0), .int (zI 2)]) (rest := []) ⟨hx, hb, hml, hown, hts⟩ (metX4_within (by omega)) (va_cwS 3 hts (lw_S q3424 q3425 q102 q3426) rfl rfl rfl (by decide +kernel) ⟨Nat.le_of_ble_eq_true rfl, Nat.le_of_ble_eq_true rfl⟩) (m_preS hG) rfl rfl hl.1 rfl (lv_room (Nat.le_of_ble_eq_true rfl)) dX4_rule_3 ⟨Nat.le_of_ble_eq_true rfl, Nat.le_of_ble_eq_true rfl⟩) hG (fun r_1 S_2 H locs hp hG => ?_)
  obtain ⟨bw1, rfl, hbw1, rfl⟩ := hp
  have hG : mW X mo ad S s H locs := hG
  refine g_eq (tgt := 46) hx hb dX4_rule_6 (by decide) (by omega) (fun h2 => ?_) (fun h2 => ?_)
  · refine lv_aload_n hx hb dX4_rule_46 rfl (lv_at hl 0 rfl) ?_
    refine lv_bipush (v := zI (-6)) hx hb dX4_rule_47 (by decide +kernel) ?_
    refine g_topz (y := -((6 : Nat) : Int)) (by decide) ?_
    refine m_ci (va_runV (As := [.int (zI (-((6 : Nat) : Int)))]) (rest := []) ⟨hx, hb, hml, hown, hts⟩ (metX4_no 6 (by decide)) (cwV 1 hts (lw_V q3427 q3429 qs43 q102 q3430) rfl rfl rfl (by decide +kernel) ⟨Nat.le_of_ble_eq_true rfl, Nat.le_of_ble_eq_true rfl⟩) (m_preV hG) rfl rfl hl.1 rfl (lv_room (Nat.le_of_ble_eq_true rfl)) dX4_rule_49 ⟨Nat.le_of_ble_eq_true rfl, Nat.le_of_ble_eq_true rfl⟩) hG (fun r_3 S_4 H locs hp hG => ?_)
    obtain ⟨rfl, rfl⟩ := hp
    have hG : mW X mo ad (mNo S 6) s H locs := hG
    exact m_iret hx hb hr hlocks hG (by first | (exfalso; omega) | exact (hX.noR 6 (by unfold opRule; all_goals ((repeat (first | rw [if_pos (by omega)] | rw [if_neg (by omega)])) <;> rfl)))) ⟨Nat.le_of_ble_eq_true rfl, Nat.le_of_ble_eq_true rfl⟩ dX4_rule_52
  · rcases (show what = 0 ∨ what = 1 ∨ what = 2 by omega) with rfl | rfl | rfl
    · refine lv_iload_n hx hb dX4_rule_9 rfl (lv_at hl 2 rfl) ?_
      refine lv_iload_n hx hb dX4_rule_10 rfl (lv_at hl 1 rfl) ?_
      refine g_ne (tgt := 18) hx hb dX4_rule_11 (by decide) (by decide) (fun h3 => ?_) (fun h3 => ?_)
      · exfalso; omega
      · refine lv_iconst (v := zI 1) hx hb dX4_rule_14 (by decide +kernel) ?_
        refine lv_goto (tgt := 19) hx hb dX4_rule_15 (by decide) ?_
        refine lv_iload_n hx hb dX4_rule_19 rfl (lv_at hl 1 rfl) ?_
        refine g_ne (tgt := 28) hx hb dX4_rule_20 (by decide) (by decide) (fun h4 => ?_) (fun h4 => ?_)
        · exfalso; omega
        · refine lv_bipush (v := zI 9) hx hb dX4_rule_23 (by decide +kernel) ?_
          refine lv_goto (tgt := 40) hx hb dX4_rule_25 (by decide) ?_
          refine m_ci (va_runS (As := [.int (zI v), .int (zI 1), .int (zI 9)]) (rest := []) ⟨hx, hb, hml, hown, hts⟩ (metX4_within (by omega)) (va_cwS 3 hts (lw_S q3424 q3425 q102 q3426) rfl rfl rfl (by decide +kernel) ⟨Nat.le_of_ble_eq_true rfl, Nat.le_of_ble_eq_true rfl⟩) (m_preS hG) rfl rfl hl.1 rfl (lv_room (Nat.le_of_ble_eq_true rfl)) dX4_rule_40 ⟨Nat.le_of_ble_eq_true rfl, Nat.le_of_ble_eq_true rfl⟩) hG (fun r_5 S_6 H locs hp hG => ?_)
          obtain ⟨bw5, rfl, hbw5, rfl⟩ := hp
          have hG : mW X mo ad S s H locs := hG
          refine g_ne (tgt := 53) hx hb dX4_rule_43 (by decide) (by omega) (fun h6 => ?_) (fun h6 => ?_)
          · have hru := hA.w.ru
            refine lv_aload_n hx hb dX4_rule_53 rfl (lv_at hl 0 rfl) ?_
            refine m_get 7 (by decide) (v := .ref (ad 7)) rfl hx hb hts hown hG (hts _ q3303) dX4_rule_54 ?_
            refine lv_iload_n hx hb dX4_rule_57 rfl (lv_at hl 1 rfl) ?_
            refine m_iald 7 rfl rfl (by decide) 0 (v := (wRun (aWd a) : Int)) ⟨by omega, by show _ < 3; omega⟩ hX.o.run hx hb hG dX4_rule_58 ?_
            refine lv_istore_n (lv' := [(3, .int (zI (wRun (aWd a) : Int))), (0, .ref mo), (1, .int (zI 0)), (2, .int (zI v))]) hx hb dX4_rule_59 rfl hl (by decide) rfl (fun ls hl => ?_)
            refine lv_aload_n hx hb dX4_rule_60 rfl (lv_at hl 1 rfl) ?_
            refine m_get 7 (by decide) (v := .ref (ad 7)) rfl hx hb hts hown hG (hts _ q3303) dX4_rule_61 ?_
            refine lv_iload_n hx hb dX4_rule_64 rfl (lv_at hl 2 rfl) ?_
            refine lv_iload_n hx hb dX4_rule_65 rfl (lv_at hl 3 rfl) ?_
            refine m_iast 7 rfl rfl (by decide) 0 ⟨by omega, by show _ < 3; omega⟩ hx hb hG dX4_rule_66 (fun H locs (hG : mW X mo ad (sA S 7 0 v) s H locs) => ?_)
            refine lv_iload_n hx hb dX4_rule_67 rfl (lv_at hl 2 rfl) ?_
            refine g_ne (tgt := 95) hx hb dX4_rule_68 (by decide) (by decide) (fun hc => ?_) (fun hc => ?_)
            · exfalso; omega
            · refine lv_iconst (v := zI 0) hx hb dX4_rule_71 (by decide +kernel) ?_
              refine lv_istore (lv' := [(4, .int (zI 0)), (3, .int (zI (wRun (aWd a) : Int))), (0, .ref mo), (1, .int (zI 0)), (2, .int (zI v))]) hx hb dX4_rule_72 hl (by decide) rfl (fun ls hl => ?_)
              have hKr : wOK (wRule (aWd a) 0 v) := wRule_ok hA.w (by omega)
              have hNn := hKr.n
              have hXk := hX.rule (v := v) (j := 0) (what := 0) ⟨rfl, by decide, by omega⟩ 0 (Or.inl rfl)
              refine g_loop (fun mz H locs ls => ∃ (k : Nat) (T : mS), (k ≤ wN (wRule (aWd a) 0 v) ∧ mz = wN (wRule (aWd a) 0 v) - k ∧ mXk T (aSetW a (wRule (aWd a) 0 v)) k) ∧ mW X mo ad T s H locs ∧ lv_has ls 5 [(0, .ref mo), (1, .int (zI 0)), (2, .int (zI v)), (3, .int (zI (wRun (aWd a) : Int))), (4, .int (zI (k : Int)))]) (wN (wRule (aWd a) 0 v) - 0) ⟨0, (sA S 7 0 v), ⟨Nat.zero_le _, rfl, hXk⟩, hG, (lv_sub hl [2, 3, 4, 1, 0] rfl)⟩ (fun mz ihA H locs ls hI => ?_)
              obtain ⟨k, T, ⟨hk, hmz, hXk⟩, hG, hl⟩ := hI
              refine lv_iload hx hb dX4_rule_74 (lv_at hl 4 rfl) ?_
              refine lv_aload_n hx hb dX4_rule_76 rfl (lv_at hl 0 rfl) ?_
              refine m_get 0 (by decide) (v := .int (zI (wN (wRule (aWd a) 0 v) : Int))) (congrArg (fun z => Value.int (zI z)) hXk.1.1.1) hx hb hts hown hG (hts _ q3296) dX4_rule_77 ?_
              refine g_cge (tgt := 95) hx hb dX4_rule_80 (by decide) (by omega) (fun hlp => ?_) (fun hlp => ?_)
              · refine lv_iload_n hx hb dX4_rule_95 rfl (lv_at hl 3 rfl) ?_
                exact m_iret hx hb hr hlocks hG (by rw [show opRule a 0 v = (aHad (aWd a) 0, (aSetW a (wRule (aWd a) 0 v))) from (by unfold opRule; all_goals ((repeat (first | rw [if_pos (by omega)] | rw [if_neg (by omega)])) <;> rfl))]; exact ⟨rfl, by have q : k = wN (wRule (aWd a) 0 v) := (by omega); subst q; exact hXk⟩) ⟨Nat.le_of_ble_eq_true rfl, Nat.le_of_ble_eq_true rfl⟩ dX4_rule_96
              · refine lv_aload_n hx hb dX4_rule_83 rfl (lv_at hl 0 rfl) ?_
                refine lv_iload hx hb dX4_rule_84 (lv_at hl 4 rfl) ?_
                refine m_cv (va_runV (As := [.int (zI (k : Int))]) (rest := []) ⟨hx, hb, hml, hown, hts⟩ (metX4_learns (w := wRule (aWd a) 0 v) hXk.1.2.1 hKr (by omega)) (cwV 1 hts (lw_V q3497 q3499 qs52 q102 q3500) rfl rfl rfl (by decide +kernel) ⟨Nat.le_of_ble_eq_true rfl, Nat.le_of_ble_eq_true rfl⟩) (m_preV hG) rfl rfl hl.1 rfl (lv_room (Nat.le_of_ble_eq_true rfl)) dX4_rule_86 ⟨Nat.le_of_ble_eq_true rfl, Nat.le_of_ble_eq_true rfl⟩) hG (fun S_8 H locs hp hG => ?_)
                obtain ⟨hb4, hoff, hon⟩ := hp
                have hG : mW X mo ad S_8 s H locs := hG
                refine lv_iinc (v := zI ((k : Int) + 1 : Int)) (lv' := [(4, .int (zI ((k : Int) + 1 : Int))), (0, .ref mo), (1, .int (zI 0)), (2, .int (zI v)), (3, .int (zI (wRun (aWd a) : Int)))]) hx hb dX4_rule_89 hl (k := 4) rfl ((zI_add _ _).trans (congrArg zI (by omega))) (by decide) rfl (fun ls hl => ?_)
                refine lv_goto (tgt := 74) hx hb dX4_rule_92 (by decide) ?_
                exact ihA (wN (wRule (aWd a) 0 v) - (k + 1)) (by omega) H locs ls ⟨(k + 1), S_8, ⟨by omega, rfl, hXk.b4 hb4 hoff hon⟩, hG, (lv_sub hl [1, 2, 3, 4, 0] rfl)⟩
          · refine lv_aload_n hx hb dX4_rule_46 rfl (lv_at hl 0 rfl) ?_
            refine lv_bipush (v := zI (-6)) hx hb dX4_rule_47 (by decide +kernel) ?_
            refine g_topz (y := -((6 : Nat) : Int)) (by decide) ?_
            refine m_ci (va_runV (As := [.int (zI (-((6 : Nat) : Int)))]) (rest := []) ⟨hx, hb, hml, hown, hts⟩ (metX4_no 6 (by decide)) (cwV 1 hts (lw_V q3427 q3429 qs43 q102 q3430) rfl rfl rfl (by decide +kernel) ⟨Nat.le_of_ble_eq_true rfl, Nat.le_of_ble_eq_true rfl⟩) (m_preV hG) rfl rfl hl.1 rfl (lv_room (Nat.le_of_ble_eq_true rfl)) dX4_rule_49 ⟨Nat.le_of_ble_eq_true rfl, Nat.le_of_ble_eq_true rfl⟩) hG (fun r_9 S_10 H locs hp hG => ?_)
            obtain ⟨rfl, rfl⟩ := hp
            have hG : mW X mo ad (mNo S 6) s H locs := hG
            exact m_iret hx hb hr hlocks hG (by first | (exfalso; omega) | exact (hX.noR 6 (by unfold opRule; all_goals ((repeat (first | rw [if_pos (by omega)] | rw [if_neg (by omega)])) <;> rfl)))) ⟨Nat.le_of_ble_eq_true rfl, Nat.le_of_ble_eq_true rfl⟩ dX4_rule_52
    · refine lv_iload_n hx hb dX4_rule_9 rfl (lv_at hl 2 rfl) ?_
      refine lv_iload_n hx hb dX4_rule_10 rfl (lv_at hl 1 rfl) ?_
      refine g_ne (tgt := 18) hx hb dX4_rule_11 (by decide) (by decide) (fun h7 => ?_) (fun h7 => ?_)
      · refine lv_iconst (v := zI 0) hx hb dX4_rule_18 (by decide +kernel) ?_
        refine lv_iload_n hx hb dX4_rule_19 rfl (lv_at hl 1 rfl) ?_
        refine g_ne (tgt := 28) hx hb dX4_rule_20 (by decide) (by decide) (fun h8 => ?_) (fun h8 => ?_)
        · refine lv_iload_n hx hb dX4_rule_28 rfl (lv_at hl 1 rfl) ?_
          refine lv_iconst (v := zI 1) hx hb dX4_rule_29 (by decide +kernel) ?_
          refine g_cne (tgt := 38) hx hb dX4_rule_30 (by decide) (by omega) (fun h9 => ?_) (fun h9 => ?_)
          · exfalso; omega
          · refine lv_bipush (v := zI 99) hx hb dX4_rule_33 (by decide +kernel) ?_
            refine lv_goto (tgt := 40) hx hb dX4_rule_35 (by decide) ?_
            refine m_ci (va_runS (As := [.int (zI v), .int (zI 0), .int (zI 99)]) (rest := []) ⟨hx, hb, hml, hown, hts⟩ (metX4_within (by omega)) (va_cwS 3 hts (lw_S q3424 q3425 q102 q3426) rfl rfl rfl (by decide +kernel) ⟨Nat.le_of_ble_eq_true rfl, Nat.le_of_ble_eq_true rfl⟩) (m_preS hG) rfl rfl hl.1 rfl (lv_room (Nat.le_of_ble_eq_true rfl)) dX4_rule_40 ⟨Nat.le_of_ble_eq_true rfl, Nat.le_of_ble_eq_true rfl⟩) hG (fun r_11 S_12 H locs hp hG => ?_)
            obtain ⟨bw10, rfl, hbw10, rfl⟩ := hp
            have hG : mW X mo ad S s H locs := hG
            refine g_ne (tgt := 53) hx hb dX4_rule_43 (by decide) (by omega) (fun h11 => ?_) (fun h11 => ?_)
            · have hru := hA.w.ru
              refine lv_aload_n hx hb dX4_rule_53 rfl (lv_at hl 0 rfl) ?_
              refine m_get 7 (by decide) (v := .ref (ad 7)) rfl hx hb hts hown hG (hts _ q3303) dX4_rule_54 ?_
              refine lv_iload_n hx hb dX4_rule_57 rfl (lv_at hl 1 rfl) ?_
              refine m_iald 7 rfl rfl (by decide) 1 (v := (wNeed (aWd a) : Int)) ⟨by omega, by show _ < 3; omega⟩ hX.o.need hx hb hG dX4_rule_58 ?_
              refine lv_istore_n (lv' := [(3, .int (zI (wNeed (aWd a) : Int))), (0, .ref mo), (1, .int (zI 1)), (2, .int (zI v))]) hx hb dX4_rule_59 rfl hl (by decide) rfl (fun ls hl => ?_)
              refine lv_aload_n hx hb dX4_rule_60 rfl (lv_at hl 1 rfl) ?_
              refine m_get 7 (by decide) (v := .ref (ad 7)) rfl hx hb hts hown hG (hts _ q3303) dX4_rule_61 ?_
              refine lv_iload_n hx hb dX4_rule_64 rfl (lv_at hl 2 rfl) ?_
              refine lv_iload_n hx hb dX4_rule_65 rfl (lv_at hl 3 rfl) ?_
              refine m_iast 7 rfl rfl (by decide) 1 ⟨by omega, by show _ < 3; omega⟩ hx hb hG dX4_rule_66 (fun H locs (hG : mW X mo ad (sA S 7 1 v) s H locs) => ?_)
              refine lv_iload_n hx hb dX4_rule_67 rfl (lv_at hl 2 rfl) ?_
              refine g_ne (tgt := 95) hx hb dX4_rule_68 (by decide) (by decide) (fun h12 => ?_) (fun h12 => ?_)
              · refine lv_iload_n hx hb dX4_rule_95 rfl (lv_at hl 0 rfl) ?_
                exact m_iret hx hb hr hlocks hG (by first | (exfalso; omega) | exact (by rw [show opRule a 1 v = (aHad (aWd a) 1, aSetW a (wRule (aWd a) 1 v)) from (by unfold opRule; all_goals ((repeat (first | rw [if_pos (by omega)] | rw [if_neg (by omega)])) <;> rfl))]; exact ⟨rfl, hX.rule (j := 1) ⟨rfl, by decide, by omega⟩ _ (Or.inr ⟨by decide, rfl⟩)⟩)) ⟨Nat.le_of_ble_eq_true rfl, Nat.le_of_ble_eq_true rfl⟩ dX4_rule_96
              · exfalso; omega
            · refine lv_aload_n hx hb dX4_rule_46 rfl (lv_at hl 0 rfl) ?_
              refine lv_bipush (v := zI (-6)) hx hb dX4_rule_47 (by decide +kernel) ?_
              refine g_topz (y := -((6 : Nat) : Int)) (by decide) ?_
              refine m_ci (va_runV (As := [.int (zI (-((6 : Nat) : Int)))]) (rest := []) ⟨hx, hb, hml, hown, hts⟩ (metX4_no 6 (by decide)) (cwV 1 hts (lw_V q3427 q3429 qs43 q102 q3430) rfl rfl rfl (by decide +kernel) ⟨Nat.le_of_ble_eq_true rfl, Nat.le_of_ble_eq_true rfl⟩) (m_preV hG) rfl rfl hl.1 rfl (lv_room (Nat.le_of_ble_eq_true rfl)) dX4_rule_49 ⟨Nat.le_of_ble_eq_true rfl, Nat.le_of_ble_eq_true rfl⟩) hG (fun r_13 S_14 H locs hp hG => ?_)
              obtain ⟨rfl, rfl⟩ := hp
              have hG : mW X mo ad (mNo S 6) s H locs := hG
              exact m_iret hx hb hr hlocks hG (by first | (exfalso; omega) | exact (hX.noR 6 (by unfold opRule; all_goals ((repeat (first | rw [if_pos (by omega)] | rw [if_neg (by omega)])) <;> rfl)))) ⟨Nat.le_of_ble_eq_true rfl, Nat.le_of_ble_eq_true rfl⟩ dX4_rule_52
        · exfalso; omega
      · exfalso; omega
    · refine lv_iload_n hx hb dX4_rule_9 rfl (lv_at hl 2 rfl) ?_
      refine lv_iload_n hx hb dX4_rule_10 rfl (lv_at hl 1 rfl) ?_
      refine g_ne (tgt := 18) hx hb dX4_rule_11 (by decide) (by decide) (fun h13 => ?_) (fun h13 => ?_)
      · refine lv_iconst (v := zI 0) hx hb dX4_rule_18 (by decide +kernel) ?_
        refine lv_iload_n hx hb dX4_rule_19 rfl (lv_at hl 1 rfl) ?_
        refine g_ne (tgt := 28) hx hb dX4_rule_20 (by decide) (by decide) (fun h14 => ?_) (fun h14 => ?_)
        · refine lv_iload_n hx hb dX4_rule_28 rfl (lv_at hl 1 rfl) ?_
          refine lv_iconst (v := zI 1) hx hb dX4_rule_29 (by decide +kernel) ?_
          refine g_cne (tgt := 38) hx hb dX4_rule_30 (by decide) (by omega) (fun h15 => ?_) (fun h15 => ?_)
          · refine lv_bipush (v := zI 20) hx hb dX4_rule_38 (by decide +kernel) ?_
            refine m_ci (va_runS (As := [.int (zI v), .int (zI 0), .int (zI 20)]) (rest := []) ⟨hx, hb, hml, hown, hts⟩ (metX4_within (by omega)) (va_cwS 3 hts (lw_S q3424 q3425 q102 q3426) rfl rfl rfl (by decide +kernel) ⟨Nat.le_of_ble_eq_true rfl, Nat.le_of_ble_eq_true rfl⟩) (m_preS hG) rfl rfl hl.1 rfl (lv_room (Nat.le_of_ble_eq_true rfl)) dX4_rule_40 ⟨Nat.le_of_ble_eq_true rfl, Nat.le_of_ble_eq_true rfl⟩) hG (fun r_15 S_16 H locs hp hG => ?_)
            obtain ⟨bw16, rfl, hbw16, rfl⟩ := hp
            have hG : mW X mo ad S s H locs := hG
            refine g_ne (tgt := 53) hx hb dX4_rule_43 (by decide) (by omega) (fun h17 => ?_) (fun h17 => ?_)
            · have hru := hA.w.ru
              refine lv_aload_n hx hb dX4_rule_53 rfl (lv_at hl 0 rfl) ?_
              refine m_get 7 (by decide) (v := .ref (ad 7)) rfl hx hb hts hown hG (hts _ q3303) dX4_rule_54 ?_
              refine lv_iload_n hx hb dX4_rule_57 rfl (lv_at hl 1 rfl) ?_
              refine m_iald 7 rfl rfl (by decide) 2 (v := (wMar (aWd a) : Int)) ⟨by omega, by show _ < 3; omega⟩ hX.o.mar hx hb hG dX4_rule_58 ?_
              refine lv_istore_n (lv' := [(3, .int (zI (wMar (aWd a) : Int))), (0, .ref mo), (1, .int (zI 2)), (2, .int (zI v))]) hx hb dX4_rule_59 rfl hl (by decide) rfl (fun ls hl => ?_)
              refine lv_aload_n hx hb dX4_rule_60 rfl (lv_at hl 1 rfl) ?_
              refine m_get 7 (by decide) (v := .ref (ad 7)) rfl hx hb hts hown hG (hts _ q3303) dX4_rule_61 ?_
              refine lv_iload_n hx hb dX4_rule_64 rfl (lv_at hl 2 rfl) ?_
              refine lv_iload_n hx hb dX4_rule_65 rfl (lv_at hl 3 rfl) ?_
              refine m_iast 7 rfl rfl (by decide) 2 ⟨by omega, by show _ < 3; omega⟩ hx hb hG dX4_rule_66 (fun H locs (hG : mW X mo ad (sA S 7 2 v) s H locs) => ?_)
              refine lv_iload_n hx hb dX4_rule_67 rfl (lv_at hl 2 rfl) ?_
              refine g_ne (tgt := 95) hx hb dX4_rule_68 (by decide) (by decide) (fun h18 => ?_) (fun h18 => ?_)
              · refine lv_iload_n hx hb dX4_rule_95 rfl (lv_at hl 0 rfl) ?_
                exact m_iret hx hb hr hlocks hG (by first | (exfalso; omega) | exact (by rw [show opRule a 2 v = (aHad (aWd a) 2, aSetW a (wRule (aWd a) 2 v)) from (by unfold opRule; all_goals ((repeat (first | rw [if_pos (by omega)] | rw [if_neg (by omega)])) <;> rfl))]; exact ⟨rfl, hX.rule (j := 2) ⟨rfl, by decide, by omega⟩ _ (Or.inr ⟨by decide, rfl⟩)⟩)) ⟨Nat.le_of_ble_eq_true rfl, Nat.le_of_ble_eq_true rfl⟩ dX4_rule_96
              · exfalso; omega
            · refine lv_aload_n hx hb dX4_rule_46 rfl (lv_at hl 0 rfl) ?_
              refine lv_bipush (v := zI (-6)) hx hb dX4_rule_47 (by decide +kernel) ?_
              refine g_topz (y := -((6 : Nat) : Int)) (by decide) ?_
              refine m_ci (va_runV (As := [.int (zI (-((6 : Nat) : Int)))]) (rest := []) ⟨hx, hb, hml, hown, hts⟩ (metX4_no 6 (by decide)) (cwV 1 hts (lw_V q3427 q3429 qs43 q102 q3430) rfl rfl rfl (by decide +kernel) ⟨Nat.le_of_ble_eq_true rfl, Nat.le_of_ble_eq_true rfl⟩) (m_preV hG) rfl rfl hl.1 rfl (lv_room (Nat.le_of_ble_eq_true rfl)) dX4_rule_49 ⟨Nat.le_of_ble_eq_true rfl, Nat.le_of_ble_eq_true rfl⟩) hG (fun r_17 S_18 H locs hp hG => ?_)
              obtain ⟨rfl, rfl⟩ := hp
              have hG : mW X mo ad (mNo S 6) s H locs := hG
              exact m_iret hx hb hr hlocks hG (by first | (exfalso; omega) | exact (hX.noR 6 (by unfold opRule; all_goals ((repeat (first | rw [if_pos (by omega)] | rw [if_neg (by omega)])) <;> rfl)))) ⟨Nat.le_of_ble_eq_true rfl, Nat.le_of_ble_eq_true rfl⟩ dX4_rule_52
          · exfalso; omega
        · exfalso; omega
      · exfalso; omega

