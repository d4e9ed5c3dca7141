set_option maxRecDepth 100000
/-- all but the walk's numbers -/
def mScr (S T : mS) : Prop := T.2 = S.2 ∧ ∀ i, i < 31 → T.1 i = S.1 i
theorem mScr.rf {S : mS} : mScr S S := ⟨rfl, fun _ _ => rfl⟩
theorem mScr.tr {S T U : mS} (h : mScr S T) (k : mScr T U) : mScr S U := ⟨k.1.trans h.1, fun i hi => (k.2 i hi).trans (h.2 i hi)⟩
theorem mScr.I {S T : mS} (h : mScr S T) {k : Nat} (hk : 31 ≤ k) (v : Int) : mScr S (sI T k v) := ⟨h.1, fun i hi => (sI_n (by omega)).trans (h.2 i hi)⟩
theorem mScr.real {S T : mS} (h : mScr S T) : mReal S T := fun k hk => ⟨h.2 k (by omega), by rw [h.1], by rw [h.1]⟩
theorem mSc2.scr {S T : mS} (h : mSc2 S T) : mScr S T := ⟨h.1, fun i hi => h.2 i (by omega) (by omega)⟩
theorem mScr.ag {S T : mS} (h : T.2.1 = S.2.1 ∧ T.2.2 = S.2.2 ∧ ∀ k, k ≠ 38 → k ≠ 39 → k ≠ 40 → T.1 k = S.1 k) : mScr S T := ⟨Prod.ext h.1 h.2.1, fun i hi => h.2.2 i (by omega) (by omega) (by omega)⟩
theorem cmR_ln {w : aW} {b i x : Nat} (h : cmR w b i = some x) : x < (wTx w b).length := by
  unfold cmR at h
  cases hf : wFo w b with
  | none => rw [hf] at h; cases h
  | some f => rw [hf] at h; exact (mPlace_lt h).2
/-- the reference's numbers are a walk -/
def mWk (S : mS) (w : aW) (k : Wk) : Prop := S.1 33 = (kHow k : Nat) ∧ (kHow k ≠ 3 → S.1 31 = (kP k : Nat) ∧ S.1 32 = (kQ k : Nat) ∧ kP k ≤ kQ k ∧ kQ k < 24) ∧ (kHow k = 3 → S.1 31 = -1 ∧ S.1 32 = -1) ∧ mLast S w (kL k) (kLP k) (kLQ k) ∧ kHow k ≤ 3
theorem mWk.cg {S T : mS} {w : aW} {k : Wk} (h : mWk S w k) (e : ∀ i, 31 ≤ i → i < 37 → T.1 i = S.1 i) : mWk T w k := by
  unfold mWk mLast; rw [e 31 (by decide) (by decide), e 32 (by decide) (by decide), e 33 (by decide) (by decide), e 34 (by decide) (by decide), e 35 (by decide) (by decide), e 36 (by decide) (by decide)]; exact h
theorem wkStep_1 {w : aW} {kd a b x y : Nat} {k : Wk} (h : kHow k ≠ 3) (g : goesK (cmR w b) (wTx w b).length kd a (kP k) (kQ k) = some (x, y)) : wkStep w kd a b k = ((1, x, y), (b, x, y)) := by
  unfold wkStep; rw [if_neg h, g]
theorem wkStep_b {w : aW} {kd a b : Nat} {k : Wk} (h : kHow k = 3 ∨ goesK (cmR w b) (wTx w b).length kd a (kP k) (kQ k) = none) : wkStep w kd a b k = wkBack w k b := by
  unfold wkStep
  by_cases h3 : kHow k = 3
  · rw [if_pos h3]
  · rw [if_neg h3, h.resolve_left h3]
theorem wkBack_n {w : aW} {b : Nat} {k : Wk} (h : looks w (kL k) (kLP k) (kLQ k) b = none) : wkBack w k b = ((3, 0, 0), k.2) := by unfold wkBack; rw [h]
theorem wkBack_s {w : aW} {b s : Nat} {k : Wk} (h : looks w (kL k) (kLP k) (kLQ k) b = some s) : wkBack w k b = if wNeed w ≤ sc (wTx w (kL k)) (wTx w b) (kLP k) (kLQ k) s then ((2, s, s + (kLQ k - kLP k)), (b, s, s + (kLQ k - kLP k))) else ((3, 0, 0), k.2) := by unfold wkBack; rw [h]
theorem looks_n {w : aW} {l lp lq b : Nat} (h : bsS (sc (wTx w l) (wTx w b) lp lq) (scN (wTx w b) lp lq) = none) : looks w l lp lq b = none := by unfold looks; rw [h]
theorem looks_s {w : aW} {l lp lq b s : Nat} (h : bsS (sc (wTx w l) (wTx w b) lp lq) (scN (wTx w b) lp lq) = some s) : looks w l lp lq b = if bsC (sc (wTx w l) (wTx w b) lp lq) s (wMar w) (scN (wTx w b) lp lq) = true then some s else none := by unfold looks; rw [h]
theorem mWk_lost {S T : mS} {w : aW} {k k' : Wk} (e : k' = ((3, 0, 0), k.2)) (h : mLast S w (kL k) (kLP k) (kLQ k)) (g : T.1 33 = 3 ∧ T.1 31 = -1 ∧ T.1 32 = -1) (hl : T.1 34 = S.1 34 ∧ T.1 35 = S.1 35 ∧ T.1 36 = S.1 36) : mWk T w k' := by
  subst e
  exact ⟨g.1, fun q => absurd rfl q, fun _ => ⟨g.2.1, g.2.2⟩, h.cg hl, Nat.le_refl 3⟩
theorem mWk_at {T : mS} {w : aW} {k' : Wk} {o b x y : Nat} (e : k' = ((o, x, y), (b, x, y))) (ho : o ≤ 2) (hb : b < wN w) (hxy : x ≤ y ∧ y < (wTx w b).length ∧ (wTx w b).length ≤ 24) (g : T.1 33 = (o : Nat) ∧ T.1 31 = (x : Nat) ∧ T.1 32 = (y : Nat) ∧ T.1 34 = (b : Nat) ∧ T.1 35 = (x : Nat) ∧ T.1 36 = (y : Nat)) : mWk T w k' := by
  subst e
  refine ⟨g.1, fun _ => ⟨g.2.1, g.2.2.1, hxy.1, by show y < 24; omega⟩, fun q => by (have q : o = 3 := q); omega, ⟨g.2.2.2.1, g.2.2.2.2.1, g.2.2.2.2.2, hb, hxy.1, hxy.2.1⟩, by show o ≤ 3; omega⟩
set_option maxHeartbeats 4000000 in
theorem metX4_steps {l : Launch} {X : gX} {mo : Nat} {ad : Nat → Nat} {S : mS} {w : aW} {k : Wk} {kd a b : Nat} (hO : mO S w) (hK : wOK w) (hb9 : b < wN w) (hfo : wFo w b ≠ none) (hW : mWk S w k) (hka : kd ≤ 6 ∧ a ≤ 9) : Met l yX4_steps (ws_ yX4_steps cX4_steps 4 none) ({ frames := 3, cells := 0, slots := 0, locals := 73 }) (mP X mo ad S [.ref mo, .int (zI (kd : Int)), .int (zI (a : Int)), .int (zI (b : Int))]) (mQv X mo ad (fun T => mWk T w (wkStep w kd a b k) ∧ mScr S T)) 0 0 (mA mo ad) := by
  refine Met.m (by decide) (Nat.le_of_ble_eq_true rfl) ?_
  intro p e s m below meth c ls hx hb hr hts hown hlocks hml hG hl
  have hl : lv_has ls 4 [(0, .ref mo), (1, .int (zI (kd : Int))), (2, .int (zI (a : Int))), (3, .int (zI (b : Int)))] := hl
  obtain ⟨hw33, hwk, hwl, hL, hh3⟩ := hW
  have hb24 := (hK.tx (r := b) hb9).1
  have hNN := hK.n
  refine lv_aload_n hx hb dX4_steps_0 rfl (lv_at hl 0 rfl) ?_
  refine m_get 33 (by decide) (v := .int (zI (kHow k : Int))) (congrArg (fun z => Value.int (zI z)) (show S.1 33 = (kHow k : Int) from hw33)) hx hb hts hown hG (hts _ q3329) dX4_steps_1 ?_
  refine lv_iconst (v := zI 3) hx hb dX4_steps_4 (by decide +kernel) ?_
  refine g_ceq (tgt := 26) hx hb dX4_steps_5 (by decide) (by omega) (fun h1 => ?_) (fun h1 => ?_)
  · have hRb := hO.rv
    have hLb := hL
    have hmb := hO.mar
    have hsb := mScr.rf (S := S)
    refine lv_aload_n hx hb dX4_steps_26 rfl (lv_at hl 0 rfl) ?_
    refine lv_iload_n hx hb dX4_steps_27 rfl (lv_at hl 3 rfl) ?_
    refine m_cv (va_runV (As := [.int (zI (b : Int))]) (rest := []) ⟨hx, hb, hml, hown, hts⟩ (metX4_looks (w := w) (b := b) (la := kL k) (lp := kLP k) (lq := kLQ k) hRb hK hb9 hLb hmb) (cwV 1 hts (lw_V q3632 q3634 qs72 q102 q3635) rfl rfl rfl (by decide +kernel) ⟨Nat.le_of_ble_eq_true rfl, Nat.le_of_ble_eq_true rfl⟩) (m_preV hG) rfl rfl hl.1 rfl (lv_room (Nat.le_of_ble_eq_true rfl)) dX4_steps_28 ⟨Nat.le_of_ble_eq_true rfl, Nat.le_of_ble_eq_true rfl⟩) hG (fun S_2 H locs hp hG => ?_)
    obtain ⟨hag, hlN, hlS⟩ := hp
    have hG : mW X mo ad S_2 s H locs := hG
    have hsT := hsb.tr (mScr.ag hag)
    have hl34 : S_2.1 34 = S.1 34 := (hag.2.2 34 (by decide) (by decide) (by decide)).trans (hLb.1.trans hL.1.symm)
    have hl35 : S_2.1 35 = S.1 35 := (hag.2.2 35 (by decide) (by decide) (by decide)).trans (hLb.2.1.trans hL.2.1.symm)
    have hl36 : S_2.1 36 = S.1 36 := (hag.2.2 36 (by decide) (by decide) (by decide)).trans (hLb.2.2.1.trans hL.2.2.1.symm)
    rcases hbS : bsS (sc (wTx w (kL k)) (wTx w b) (kLP k) (kLQ k)) (scN (wTx w b) (kLP k) (kLQ k)) with _ | v
    · refine lv_aload_n hx hb dX4_steps_31 rfl (lv_at hl 0 rfl) ?_
      refine m_get 40 (by decide) (v := .int (zI 0)) (congrArg (fun z => Value.int (zI z)) (show S_2.1 40 = 0 from (hlN hbS))) hx hb hts hown hG (hts _ q3336) dX4_steps_32 ?_
      refine g_eq (tgt := 85) hx hb dX4_steps_35 (by decide) (by decide) (fun h5 => ?_) (fun h5 => ?_)
      · refine lv_aload_n hx hb dX4_steps_85 rfl (lv_at hl 0 rfl) ?_
        refine lv_iconst (v := zI 3) hx hb dX4_steps_86 (by decide +kernel) ?_
        refine m_put 33 (by decide) rfl rfl (tyX4_ok 33 (by decide)) rfl rfl hx hb hts hown hG (hts _ q3329) dX4_steps_87 (fun H locs (hG : mW X mo ad (sI S_2 33 3) s H locs) => ?_)
        refine lv_aload_n hx hb dX4_steps_90 rfl (lv_at hl 0 rfl) ?_
        refine m_get 33 (by decide) (v := .int (zI 3)) rfl hx hb hts hown hG (hts _ q3329) dX4_steps_91 ?_
        refine lv_iconst (v := zI 3) hx hb dX4_steps_94 (by decide +kernel) ?_
        refine g_cne (tgt := 109) hx hb dX4_steps_95 (by decide) (by omega) (fun hlo => ?_) (fun hlo => ?_)
        · exfalso; omega
        · refine lv_aload_n hx hb dX4_steps_98 rfl (lv_at hl 0 rfl) ?_
          refine lv_iconst (v := zI (-1)) hx hb dX4_steps_99 (by decide +kernel) ?_
          refine m_put 31 (by decide) rfl rfl (tyX4_ok 31 (by decide)) rfl rfl hx hb hts hown hG (hts _ q3327) dX4_steps_100 (fun H locs (hG : mW X mo ad (sI (sI S_2 33 3) 31 (-1)) s H locs) => ?_)
          refine lv_aload_n hx hb dX4_steps_103 rfl (lv_at hl 0 rfl) ?_
          refine lv_iconst (v := zI (-1)) hx hb dX4_steps_104 (by decide +kernel) ?_
          refine m_put 32 (by decide) rfl rfl (tyX4_ok 32 (by decide)) rfl rfl hx hb hts hown hG (hts _ q3328) dX4_steps_105 (fun H locs (hG : mW X mo ad (sI (sI (sI S_2 33 3) 31 (-1)) 32 (-1)) s H locs) => ?_)
          exact m_vret hx hb hr hlocks hG (⟨mWk_lost (S := S) (k := k) ((wkStep_b (Or.inl (by omega))).trans (wkBack_n (looks_n hbS))) hL ⟨rfl, rfl, rfl⟩ ⟨hl34, hl35, hl36⟩, ((hsT.I (by decide) _).I (by decide) _).I (by decide) _⟩) ⟨Nat.le_of_ble_eq_true rfl, Nat.le_of_ble_eq_true rfl⟩ dX4_steps_108
      · exfalso; omega
    · obtain ⟨h38, h39, h40⟩ := hlS v hbS
      have hvN := bsS_some _ _ hbS
      have hf9 := @sc_le (wTx w (kL k)) (wTx w b) (kLP k) (kLQ k) v
      have hL6 := hL.2.2.2
      have hll := (hK.tx (r := kL k) hL6.1).1
      have hvl : v + (kLQ k - kLP k) < (wTx w b).length := by unfold scN at hvN; omega
      have hru := hK.ru
      rcases hC : bsC (sc (wTx w (kL k)) (wTx w b) (kLP k) (kLQ k)) v (wMar w) (scN (wTx w b) (kLP k) (kLQ k)) with _ | _
      · rw [hC] at h40
        refine lv_aload_n hx hb dX4_steps_31 rfl (lv_at hl 0 rfl) ?_
        refine m_get 40 (by decide) (v := .int (zI 0)) (congrArg (fun z => Value.int (zI z)) (show S_2.1 40 = 0 from h40)) hx hb hts hown hG (hts _ q3336) dX4_steps_32 ?_
        refine g_eq (tgt := 85) hx hb dX4_steps_35 (by decide) (by decide) (fun h5 => ?_) (fun h5 => ?_)
        · refine lv_aload_n hx hb dX4_steps_85 rfl (lv_at hl 0 rfl) ?_
          refine lv_iconst (v := zI 3) hx hb dX4_steps_86 (by decide +kernel) ?_
          refine m_put 33 (by decide) rfl rfl (tyX4_ok 33 (by decide)) rfl rfl hx hb hts hown hG (hts _ q3329) dX4_steps_87 (fun H locs (hG : mW X mo ad (sI S_2 33 3) s H locs) => ?_)
          refine lv_aload_n hx hb dX4_steps_90 rfl (lv_at hl 0 rfl) ?_
          refine m_get 33 (by decide) (v := .int (zI 3)) rfl hx hb hts hown hG (hts _ q3329) dX4_steps_91 ?_
          refine lv_iconst (v := zI 3) hx hb dX4_steps_94 (by decide +kernel) ?_
          refine g_cne (tgt := 109) hx hb dX4_steps_95 (by decide) (by omega) (fun hlo => ?_) (fun hlo => ?_)
          · exfalso; omega
          · refine lv_aload_n hx hb dX4_steps_98 rfl (lv_at hl 0 rfl) ?_
            refine lv_iconst (v := zI (-1)) hx hb dX4_steps_99 (by decide +kernel) ?_
            refine m_put 31 (by decide) rfl rfl (tyX4_ok 31 (by decide)) rfl rfl hx hb hts hown hG (hts _ q3327) dX4_steps_100 (fun H locs (hG : mW X mo ad (sI (sI S_2 33 3) 31 (-1)) s H locs) => ?_)
            refine lv_aload_n hx hb dX4_steps_103 rfl (lv_at hl 0 rfl) ?_
            refine lv_iconst (v := zI (-1)) hx hb dX4_steps_104 (by decide +kernel) ?_
            refine m_put 32 (by decide) rfl rfl (tyX4_ok 32 (by decide)) rfl rfl hx hb hts hown hG (hts _ q3328) dX4_steps_105 (fun H locs (hG : mW X mo ad (sI (sI (sI S_2 33 3) 31 (-1)) 32 (-1)) s H locs) => ?_)
            exact m_vret hx hb hr hlocks hG (⟨mWk_lost (S := S) (k := k) ((wkStep_b (Or.inl (by omega))).trans (wkBack_n ((looks_s hbS).trans (if_neg (by rw [hC]; exact nofun))))) hL ⟨rfl, rfl, rfl⟩ ⟨hl34, hl35, hl36⟩, ((hsT.I (by decide) _).I (by decide) _).I (by decide) _⟩) ⟨Nat.le_of_ble_eq_true rfl, Nat.le_of_ble_eq_true rfl⟩ dX4_steps_108
        · exfalso; omega
      · rw [hC] at h40
        refine lv_aload_n hx hb dX4_steps_31 rfl (lv_at hl 0 rfl) ?_
        refine m_get 40 (by decide) (v := .int (zI 1)) (congrArg (fun z => Value.int (zI z)) (show S_2.1 40 = 1 from h40)) hx hb hts hown hG (hts _ q3336) dX4_steps_32 ?_
        refine g_eq (tgt := 85) hx hb dX4_steps_35 (by decide) (by decide) (fun h5 => ?_) (fun h5 => ?_)
        · exfalso; omega
        · refine lv_aload_n hx hb dX4_steps_38 rfl (lv_at hl 0 rfl) ?_
          refine m_get 39 (by decide) (v := .int (zI ((sc (wTx w (kL k)) (wTx w b) (kLP k) (kLQ k)) v : Int))) (congrArg (fun z => Value.int (zI z)) (show S_2.1 39 = ((sc (wTx w (kL k)) (wTx w b) (kLP k) (kLQ k)) v : Int) from h39)) hx hb hts hown hG (hts _ q3335) dX4_steps_39 ?_
          refine lv_aload_n hx hb dX4_steps_42 rfl (lv_at hl 0 rfl) ?_
          refine m_get 7 (by decide) (v := .ref (ad 7)) rfl hx hb hts hown hG (hts _ q3303) dX4_steps_43 ?_
          refine lv_iconst (v := zI 1) hx hb dX4_steps_46 (by decide +kernel) ?_
          refine m_iald 7 rfl rfl (by decide) 1 (v := (wNeed w : Int)) ⟨by omega, by show _ < 3; omega⟩ (show S_2.2.1 7 1 = (wNeed w : Int) from ((congrFun (congrFun (congrArg Prod.fst hsT.1) 7) 1).trans hO.need)) hx hb hG dX4_steps_47 ?_
          refine g_clt (tgt := 85) hx hb dX4_steps_48 (by decide) (by omega) (fun h6 => ?_) (fun h6 => ?_)
          · refine lv_aload_n hx hb dX4_steps_85 rfl (lv_at hl 0 rfl) ?_
            refine lv_iconst (v := zI 3) hx hb dX4_steps_86 (by decide +kernel) ?_
            refine m_put 33 (by decide) rfl rfl (tyX4_ok 33 (by decide)) rfl rfl hx hb hts hown hG (hts _ q3329) dX4_steps_87 (fun H locs (hG : mW X mo ad (sI S_2 33 3) s H locs) => ?_)
            refine lv_aload_n hx hb dX4_steps_90 rfl (lv_at hl 0 rfl) ?_
            refine m_get 33 (by decide) (v := .int (zI 3)) rfl hx hb hts hown hG (hts _ q3329) dX4_steps_91 ?_
            refine lv_iconst (v := zI 3) hx hb dX4_steps_94 (by decide +kernel) ?_
            refine g_cne (tgt := 109) hx hb dX4_steps_95 (by decide) (by omega) (fun hlo => ?_) (fun hlo => ?_)
            · exfalso; omega
            · refine lv_aload_n hx hb dX4_steps_98 rfl (lv_at hl 0 rfl) ?_
              refine lv_iconst (v := zI (-1)) hx hb dX4_steps_99 (by decide +kernel) ?_
              refine m_put 31 (by decide) rfl rfl (tyX4_ok 31 (by decide)) rfl rfl hx hb hts hown hG (hts _ q3327) dX4_steps_100 (fun H locs (hG : mW X mo ad (sI (sI S_2 33 3) 31 (-1)) s H locs) => ?_)
              refine lv_aload_n hx hb dX4_steps_103 rfl (lv_at hl 0 rfl) ?_
              refine lv_iconst (v := zI (-1)) hx hb dX4_steps_104 (by decide +kernel) ?_
              refine m_put 32 (by decide) rfl rfl (tyX4_ok 32 (by decide)) rfl rfl hx hb hts hown hG (hts _ q3328) dX4_steps_105 (fun H locs (hG : mW X mo ad (sI (sI (sI S_2 33 3) 31 (-1)) 32 (-1)) s H locs) => ?_)
              exact m_vret hx hb hr hlocks hG (⟨mWk_lost (S := S) (k := k) ((wkStep_b (Or.inl (by omega))).trans ((wkBack_s ((looks_s hbS).trans (if_pos hC))).trans (if_neg (by omega)))) hL ⟨rfl, rfl, rfl⟩ ⟨hl34, hl35, hl36⟩, ((hsT.I (by decide) _).I (by decide) _).I (by decide) _⟩) ⟨Nat.le_of_ble_eq_true rfl, Nat.le_of_ble_eq_true rfl⟩ dX4_steps_108
          · refine lv_aload_n hx hb dX4_steps_51 rfl (lv_at hl 0 rfl) ?_
            refine lv_iconst (v := zI 2) hx hb dX4_steps_52 (by decide +kernel) ?_
            refine m_put 33 (by decide) rfl rfl (tyX4_ok 33 (by decide)) rfl rfl hx hb hts hown hG (hts _ q3329) dX4_steps_53 (fun H locs (hG : mW X mo ad (sI S_2 33 2) s H locs) => ?_)
            refine lv_aload_n hx hb dX4_steps_56 rfl (lv_at hl 0 rfl) ?_
            refine lv_aload_n hx hb dX4_steps_57 rfl (lv_at hl 0 rfl) ?_
            refine m_get 38 (by decide) (v := .int (zI (v : Int))) (congrArg (fun z => Value.int (zI z)) (show (sI S_2 33 2).1 38 = (v : Int) from h38)) hx hb hts hown hG (hts _ q3334) dX4_steps_58 ?_
            refine m_put 31 (by decide) rfl rfl (tyX4_ok 31 (by decide)) rfl rfl hx hb hts hown hG (hts _ q3327) dX4_steps_61 (fun H locs (hG : mW X mo ad (sI (sI S_2 33 2) 31 (v : Int)) s H locs) => ?_)
            refine lv_aload_n hx hb dX4_steps_64 rfl (lv_at hl 0 rfl) ?_
            refine lv_aload_n hx hb dX4_steps_65 rfl (lv_at hl 0 rfl) ?_
            refine m_get 38 (by decide) (v := .int (zI (v : Int))) (congrArg (fun z => Value.int (zI z)) (show (sI (sI S_2 33 2) 31 (v : Int)).1 38 = (v : Int) from h38)) hx hb hts hown hG (hts _ q3334) dX4_steps_66 ?_
            refine lv_aload_n hx hb dX4_steps_69 rfl (lv_at hl 0 rfl) ?_
            refine m_get 36 (by decide) (v := .int (zI (kLQ k : Int))) (congrArg (fun z => Value.int (zI z)) (show (sI (sI S_2 33 2) 31 (v : Int)).1 36 = (kLQ k : Int) from (hl36.trans hL.2.2.1))) hx hb hts hown hG (hts _ q3332) dX4_steps_70 ?_
            refine g_iadd hx hb dX4_steps_73 ?_
            refine lv_aload_n hx hb dX4_steps_74 rfl (lv_at hl 0 rfl) ?_
            refine m_get 35 (by decide) (v := .int (zI (kLP k : Int))) (congrArg (fun z => Value.int (zI z)) (show (sI (sI S_2 33 2) 31 (v : Int)).1 35 = (kLP k : Int) from (hl35.trans hL.2.1))) hx hb hts hown hG (hts _ q3331) dX4_steps_75 ?_
            refine g_isub hx hb dX4_steps_78 ?_
            refine m_put 32 (by decide) rfl rfl (tyX4_ok 32 (by decide)) rfl rfl hx hb hts hown hG (hts _ q3328) dX4_steps_79 (fun H locs (hG : mW X mo ad (sI (sI (sI S_2 33 2) 31 (v : Int)) 32 (((v : Int) + (kLQ k : Int)) - (kLP k : Int))) s H locs) => ?_)
            refine lv_goto (tgt := 90) hx hb dX4_steps_82 (by decide) ?_
            refine lv_aload_n hx hb dX4_steps_90 rfl (lv_at hl 0 rfl) ?_
            refine m_get 33 (by decide) (v := .int (zI 2)) rfl hx hb hts hown hG (hts _ q3329) dX4_steps_91 ?_
            refine lv_iconst (v := zI 3) hx hb dX4_steps_94 (by decide +kernel) ?_
            refine g_cne (tgt := 109) hx hb dX4_steps_95 (by decide) (by omega) (fun hlo => ?_) (fun hlo => ?_)
            · refine lv_aload_n hx hb dX4_steps_109 rfl (lv_at hl 0 rfl) ?_
              refine lv_iload_n hx hb dX4_steps_110 rfl (lv_at hl 3 rfl) ?_
              refine m_put 34 (by decide) rfl rfl (tyX4_ok 34 (by decide)) rfl rfl hx hb hts hown hG (hts _ q3330) dX4_steps_111 (fun H locs (hG : mW X mo ad (sI (sI (sI (sI S_2 33 2) 31 (v : Int)) 32 (((v : Int) + (kLQ k : Int)) - (kLP k : Int))) 34 (b : Int)) s H locs) => ?_)
              refine lv_aload_n hx hb dX4_steps_114 rfl (lv_at hl 0 rfl) ?_
              refine lv_aload_n hx hb dX4_steps_115 rfl (lv_at hl 0 rfl) ?_
              refine m_get 31 (by decide) (v := .int (zI (v : Int))) rfl hx hb hts hown hG (hts _ q3327) dX4_steps_116 ?_
              refine m_put 35 (by decide) rfl rfl (tyX4_ok 35 (by decide)) rfl rfl hx hb hts hown hG (hts _ q3331) dX4_steps_119 (fun H locs (hG : mW X mo ad (sI (sI (sI (sI (sI S_2 33 2) 31 (v : Int)) 32 (((v : Int) + (kLQ k : Int)) - (kLP k : Int))) 34 (b : Int)) 35 (v : Int)) s H locs) => ?_)
              refine lv_aload_n hx hb dX4_steps_122 rfl (lv_at hl 0 rfl) ?_
              refine lv_aload_n hx hb dX4_steps_123 rfl (lv_at hl 0 rfl) ?_
              refine m_get 32 (by decide) (v := .int (zI (((v : Int) + (kLQ k : Int)) - (kLP k : Int)))) rfl hx hb hts hown hG (hts _ q3328) dX4_steps_124 ?_
              refine m_put 36 (by decide) rfl rfl (tyX4_ok 36 (by decide)) rfl rfl hx hb hts hown hG (hts _ q3332) dX4_steps_127 (fun H locs (hG : mW X mo ad (sI (sI (sI (sI (sI (sI S_2 33 2) 31 (v : Int)) 32 (((v : Int) + (kLQ k : Int)) - (kLP k : Int))) 34 (b : Int)) 35 (v : Int)) 36 (((v : Int) + (kLQ k : Int)) - (kLP k : Int))) s H locs) => ?_)
              exact m_vret hx hb hr hlocks hG (⟨mWk_at (o := 2) (b := b) (x := v) (y := (v + (kLQ k - kLP k))) ((wkStep_b (Or.inl (by omega))).trans ((wkBack_s ((looks_s hbS).trans (if_pos hC))).trans (if_pos (by omega)))) (by decide) hb9 ⟨by omega, hvl, hb24⟩ ⟨rfl, rfl, (show (v : Int) + (kLQ k : Int) - (kLP k : Int) = ((v + (kLQ k - kLP k) : Nat) : Int) by omega), rfl, rfl, (show (v : Int) + (kLQ k : Int) - (kLP k : Int) = ((v + (kLQ k - kLP k) : Nat) : Int) by omega)⟩, (((((hsT.I (by decide) _).I (by decide) _).I (by decide) _).I (by decide) _).I (by decide) _).I (by decide) _⟩) ⟨Nat.le_of_ble_eq_true rfl, Nat.le_of_ble_eq_true rfl⟩ dX4_steps_130
            · exfalso; omega
  · obtain ⟨hp31, hp32, hpq, hq24⟩ := hwk (by omega)
    refine lv_aload_n hx hb dX4_steps_8 rfl (lv_at hl 0 rfl) ?_
    refine lv_iload_n hx hb dX4_steps_9 rfl (lv_at hl 1 rfl) ?_
    refine lv_iload_n hx hb dX4_steps_10 rfl (lv_at hl 2 rfl) ?_
    refine lv_iload_n hx hb dX4_steps_11 rfl (lv_at hl 3 rfl) ?_
    refine m_ci (va_runV (As := [.int (zI (kd : Int)), .int (zI (a : Int)), .int (zI (b : Int))]) (rest := []) ⟨hx, hb, hml, hown, hts⟩ (metX4_goesTo (cf := cmR w b) (pp := kP k) (qq := kQ k) (kd := kd) (a := a) (nb := (wTx w b).length) (by omega) (fun i hi => hO.cm hb9 hfo hi) (fun i x hx => cmR_ln hx) ⟨hO.len hb9, hb24⟩ ⟨hp31, hp32, hpq, hq24⟩ hka) (cwV 3 hts (lw_V q3619 q3621 qs69 q102 q3622) rfl rfl rfl (by decide +kernel) ⟨Nat.le_of_ble_eq_true rfl, Nat.le_of_ble_eq_true rfl⟩) (m_preV hG) rfl rfl hl.1 rfl (lv_room (Nat.le_of_ble_eq_true rfl)) dX4_steps_12 ⟨Nat.le_of_ble_eq_true rfl, Nat.le_of_ble_eq_true rfl⟩) hG (fun r_3 S_4 H locs hp hG => ?_)
    obtain ⟨b1, rfl, hb1, hs2⟩ := hp
    have hG : mW X mo ad S_4 s H locs := hG
    refine g_eq (tgt := 26) hx hb dX4_steps_15 (by decide) (by omega) (fun h2 => ?_) (fun h2 => ?_)
    · have hgn := hb1.elim (fun q => absurd q.1 (by omega)) (fun q => q.2)
      have hsb := hs2.scr
      have hRb := hO.rv.cg ⟨congrFun (congrArg Prod.fst hs2.1) 1, congrFun (congrArg Prod.fst hs2.1) 2, congrFun (congrArg Prod.fst hs2.1) 7, congrFun (congrArg Prod.snd hs2.1) 3⟩
      have hLb : mLast S_4 w (kL k) (kLP k) (kLQ k) := hL.cg ⟨hs2.2 34 (by decide) (by decide), hs2.2 35 (by decide) (by decide), hs2.2 36 (by decide) (by decide)⟩
      have hmb := (congrFun (congrFun (congrArg Prod.fst hs2.1) 7) 2).trans hO.mar
      refine lv_aload_n hx hb dX4_steps_26 rfl (lv_at hl 0 rfl) ?_
      refine lv_iload_n hx hb dX4_steps_27 rfl (lv_at hl 3 rfl) ?_
      refine m_cv (va_runV (As := [.int (zI (b : Int))]) (rest := []) ⟨hx, hb, hml, hown, hts⟩ (metX4_looks (w := w) (b := b) (la := kL k) (lp := kLP k) (lq := kLQ k) hRb hK hb9 hLb hmb) (cwV 1 hts (lw_V q3632 q3634 qs72 q102 q3635) rfl rfl rfl (by decide +kernel) ⟨Nat.le_of_ble_eq_true rfl, Nat.le_of_ble_eq_true rfl⟩) (m_preV hG) rfl rfl hl.1 rfl (lv_room (Nat.le_of_ble_eq_true rfl)) dX4_steps_28 ⟨Nat.le_of_ble_eq_true rfl, Nat.le_of_ble_eq_true rfl⟩) hG (fun S_6 H locs hp hG => ?_)
      obtain ⟨hag, hlN, hlS⟩ := hp
      have hG : mW X mo ad S_6 s H locs := hG
      have hsT := hsb.tr (mScr.ag hag)
      have hl34 : S_6.1 34 = S.1 34 := (hag.2.2 34 (by decide) (by decide) (by decide)).trans (hLb.1.trans hL.1.symm)
      have hl35 : S_6.1 35 = S.1 35 := (hag.2.2 35 (by decide) (by decide) (by decide)).trans (hLb.2.1.trans hL.2.1.symm)
      have hl36 : S_6.1 36 = S.1 36 := (hag.2.2 36 (by decide) (by decide) (by decide)).trans (hLb.2.2.1.trans hL.2.2.1.symm)
      rcases hbS : bsS (sc (wTx w (kL k)) (wTx w b) (kLP k) (kLQ k)) (scN (wTx w b) (kLP k) (kLQ k)) with _ | v
      · refine lv_aload_n hx hb dX4_steps_31 rfl (lv_at hl 0 rfl) ?_
        refine m_get 40 (by decide) (v := .int (zI 0)) (congrArg (fun z => Value.int (zI z)) (show S_6.1 40 = 0 from (hlN hbS))) hx hb hts hown hG (hts _ q3336) dX4_steps_32 ?_
        refine g_eq (tgt := 85) hx hb dX4_steps_35 (by decide) (by decide) (fun h5 => ?_) (fun h5 => ?_)
        · refine lv_aload_n hx hb dX4_steps_85 rfl (lv_at hl 0 rfl) ?_
          refine lv_iconst (v := zI 3) hx hb dX4_steps_86 (by decide +kernel) ?_
          refine m_put 33 (by decide) rfl rfl (tyX4_ok 33 (by decide)) rfl rfl hx hb hts hown hG (hts _ q3329) dX4_steps_87 (fun H locs (hG : mW X mo ad (sI S_6 33 3) s H locs) => ?_)
          refine lv_aload_n hx hb dX4_steps_90 rfl (lv_at hl 0 rfl) ?_
          refine m_get 33 (by decide) (v := .int (zI 3)) rfl hx hb hts hown hG (hts _ q3329) dX4_steps_91 ?_
          refine lv_iconst (v := zI 3) hx hb dX4_steps_94 (by decide +kernel) ?_
          refine g_cne (tgt := 109) hx hb dX4_steps_95 (by decide) (by omega) (fun hlo => ?_) (fun hlo => ?_)
          · exfalso; omega
          · refine lv_aload_n hx hb dX4_steps_98 rfl (lv_at hl 0 rfl) ?_
            refine lv_iconst (v := zI (-1)) hx hb dX4_steps_99 (by decide +kernel) ?_
            refine m_put 31 (by decide) rfl rfl (tyX4_ok 31 (by decide)) rfl rfl hx hb hts hown hG (hts _ q3327) dX4_steps_100 (fun H locs (hG : mW X mo ad (sI (sI S_6 33 3) 31 (-1)) s H locs) => ?_)
            refine lv_aload_n hx hb dX4_steps_103 rfl (lv_at hl 0 rfl) ?_
            refine lv_iconst (v := zI (-1)) hx hb dX4_steps_104 (by decide +kernel) ?_
            refine m_put 32 (by decide) rfl rfl (tyX4_ok 32 (by decide)) rfl rfl hx hb hts hown hG (hts _ q3328) dX4_steps_105 (fun H locs (hG : mW X mo ad (sI (sI (sI S_6 33 3) 31 (-1)) 32 (-1)) s H locs) => ?_)
            exact m_vret hx hb hr hlocks hG (⟨mWk_lost (S := S) (k := k) ((wkStep_b (Or.inr hgn)).trans (wkBack_n (looks_n hbS))) hL ⟨rfl, rfl, rfl⟩ ⟨hl34, hl35, hl36⟩, ((hsT.I (by decide) _).I (by decide) _).I (by decide) _⟩) ⟨Nat.le_of_ble_eq_true rfl, Nat.le_of_ble_eq_true rfl⟩ dX4_steps_108
        · exfalso; omega
      · obtain ⟨h38, h39, h40⟩ := hlS v hbS
        have hvN := bsS_some _ _ hbS
        have hf9 := @sc_le (wTx w (kL k)) (wTx w b) (kLP k) (kLQ k) v
        have hL6 := hL.2.2.2
        have hll := (hK.tx (r := kL k) hL6.1).1
        have hvl : v + (kLQ k - kLP k) < (wTx w b).length := by unfold scN at hvN; omega
        have hru := hK.ru
        rcases hC : bsC (sc (wTx w (kL k)) (wTx w b) (kLP k) (kLQ k)) v (wMar w) (scN (wTx w b) (kLP k) (kLQ k)) with _ | _
        · rw [hC] at h40
          refine lv_aload_n hx hb dX4_steps_31 rfl (lv_at hl 0 rfl) ?_
          refine m_get 40 (by decide) (v := .int (zI 0)) (congrArg (fun z => Value.int (zI z)) (show S_6.1 40 = 0 from h40)) hx hb hts hown hG (hts _ q3336) dX4_steps_32 ?_
          refine g_eq (tgt := 85) hx hb dX4_steps_35 (by decide) (by decide) (fun h5 => ?_) (fun h5 => ?_)
          · refine lv_aload_n hx hb dX4_steps_85 rfl (lv_at hl 0 rfl) ?_
            refine lv_iconst (v := zI 3) hx hb dX4_steps_86 (by decide +kernel) ?_
            refine m_put 33 (by decide) rfl rfl (tyX4_ok 33 (by decide)) rfl rfl hx hb hts hown hG (hts _ q3329) dX4_steps_87 (fun H locs (hG : mW X mo ad (sI S_6 33 3) s H locs) => ?_)
            refine lv_aload_n hx hb dX4_steps_90 rfl (lv_at hl 0 rfl) ?_
            refine m_get 33 (by decide) (v := .int (zI 3)) rfl hx hb hts hown hG (hts _ q3329) dX4_steps_91 ?_
            refine lv_iconst (v := zI 3) hx hb dX4_steps_94 (by decide +kernel) ?_
            refine g_cne (tgt := 109) hx hb dX4_steps_95 (by decide) (by omega) (fun hlo => ?_) (fun hlo => ?_)
            · exfalso; omega
            · refine lv_aload_n hx hb dX4_steps_98 rfl (lv_at hl 0 rfl) ?_
              refine lv_iconst (v := zI (-1)) hx hb dX4_steps_99 (by decide +kernel) ?_
              refine m_put 31 (by decide) rfl rfl (tyX4_ok 31 (by decide)) rfl rfl hx hb hts hown hG (hts _ q3327) dX4_steps_100 (fun H locs (hG : mW X mo ad (sI (sI S_6 33 3) 31 (-1)) s H locs) => ?_)
              refine lv_aload_n hx hb dX4_steps_103 rfl (lv_at hl 0 rfl) ?_
              refine lv_iconst (v := zI (-1)) hx hb dX4_steps_104 (by decide +kernel) ?_
              refine m_put 32 (by decide) rfl rfl (tyX4_ok 32 (by decide)) rfl rfl hx hb hts hown hG (hts _ q3328) dX4_steps_105 (fun H locs (hG : mW X mo ad (sI (sI (sI S_6 33 3) 31 (-1)) 32 (-1)) s H locs) => ?_)
              exact m_vret hx hb hr hlocks hG (⟨mWk_lost (S := S) (k := k) ((wkStep_b (Or.inr hgn)).trans (wkBack_n ((looks_s hbS).trans (if_neg (by rw [hC]; exact nofun))))) hL ⟨rfl, rfl, rfl⟩ ⟨hl34, hl35, hl36⟩, ((hsT.I (by decide) _).I (by decide) _).I (by decide) _⟩) ⟨Nat.le_of_ble_eq_true rfl, Nat.le_of_ble_eq_true rfl⟩ dX4_steps_108
          · exfalso; omega
        · rw [hC] at h40
          refine lv_aload_n hx hb dX4_steps_31 rfl (lv_at hl 0 rfl) ?_
          refine m_get 40 (by decide) (v := .int (zI 1)) (congrArg (fun z => Value.int (zI z)) (show S_6.1 40 = 1 from h40)) hx hb hts hown hG (hts _ q3336) dX4_steps_32 ?_
          refine g_eq (tgt := 85) hx hb dX4_steps_35 (by decide) (by decide) (fun h5 => ?_) (fun h5 => ?_)
          · exfalso; omega
          · refine lv_aload_n hx hb dX4_steps_38 rfl (lv_at hl 0 rfl) ?_
            refine m_get 39 (by decide) (v := .int (zI ((sc (wTx w (kL k)) (wTx w b) (kLP k) (kLQ k)) v : Int))) (congrArg (fun z => Value.int (zI z)) (show S_6.1 39 = ((sc (wTx w (kL k)) (wTx w b) (kLP k) (kLQ k)) v : Int) from h39)) hx hb hts hown hG (hts _ q3335) dX4_steps_39 ?_
            refine lv_aload_n hx hb dX4_steps_42 rfl (lv_at hl 0 rfl) ?_
            refine m_get 7 (by decide) (v := .ref (ad 7)) rfl hx hb hts hown hG (hts _ q3303) dX4_steps_43 ?_
            refine lv_iconst (v := zI 1) hx hb dX4_steps_46 (by decide +kernel) ?_
            refine m_iald 7 rfl rfl (by decide) 1 (v := (wNeed w : Int)) ⟨by omega, by show _ < 3; omega⟩ (show S_6.2.1 7 1 = (wNeed w : Int) from ((congrFun (congrFun (congrArg Prod.fst hsT.1) 7) 1).trans hO.need)) hx hb hG dX4_steps_47 ?_
            refine g_clt (tgt := 85) hx hb dX4_steps_48 (by decide) (by omega) (fun h6 => ?_) (fun h6 => ?_)
            · refine lv_aload_n hx hb dX4_steps_85 rfl (lv_at hl 0 rfl) ?_
              refine lv_iconst (v := zI 3) hx hb dX4_steps_86 (by decide +kernel) ?_
              refine m_put 33 (by decide) rfl rfl (tyX4_ok 33 (by decide)) rfl rfl hx hb hts hown hG (hts _ q3329) dX4_steps_87 (fun H locs (hG : mW X mo ad (sI S_6 33 3) s H locs) => ?_)
              refine lv_aload_n hx hb dX4_steps_90 rfl (lv_at hl 0 rfl) ?_
              refine m_get 33 (by decide) (v := .int (zI 3)) rfl hx hb hts hown hG (hts _ q3329) dX4_steps_91 ?_
              refine lv_iconst (v := zI 3) hx hb dX4_steps_94 (by decide +kernel) ?_
              refine g_cne (tgt := 109) hx hb dX4_steps_95 (by decide) (by omega) (fun hlo => ?_) (fun hlo => ?_)
              · exfalso; omega
              · refine lv_aload_n hx hb dX4_steps_98 rfl (lv_at hl 0 rfl) ?_
                refine lv_iconst (v := zI (-1)) hx hb dX4_steps_99 (by decide +kernel) ?_
                refine m_put 31 (by decide) rfl rfl (tyX4_ok 31 (by decide)) rfl rfl hx hb hts hown hG (hts _ q3327) dX4_steps_100 (fun H locs (hG : mW X mo ad (sI (sI S_6 33 3) 31 (-1)) s H locs) => ?_)
                refine lv_aload_n hx hb dX4_steps_103 rfl (lv_at hl 0 rfl) ?_
                refine lv_iconst (v := zI (-1)) hx hb dX4_steps_104 (by decide +kernel) ?_
                refine m_put 32 (by decide) rfl rfl (tyX4_ok 32 (by decide)) rfl rfl hx hb hts hown hG (hts _ q3328) dX4_steps_105 (fun H locs (hG : mW X mo ad (sI (sI (sI S_6 33 3) 31 (-1)) 32 (-1)) s H locs) => ?_)
                exact m_vret hx hb hr hlocks hG (⟨mWk_lost (S := S) (k := k) ((wkStep_b (Or.inr hgn)).trans ((wkBack_s ((looks_s hbS).trans (if_pos hC))).trans (if_neg (by omega)))) hL ⟨rfl, rfl, rfl⟩ ⟨hl34, hl35, hl36⟩, ((hsT.I (by decide) _).I (by decide) _).I (by decide) _⟩) ⟨Nat.le_of_ble_eq_true rfl, Nat.le_of_ble_eq_true rfl⟩ dX4_steps_108
            · refine lv_aload_n hx hb dX4_steps_51 rfl (lv_at hl 0 rfl) ?_
              refine lv_iconst (v := zI 2) hx hb dX4_steps_52 (by decide +kernel) ?_
              refine m_put 33 (by decide) rfl rfl (tyX4_ok 33 (by decide)) rfl rfl hx hb hts hown hG (hts _ q3329) dX4_steps_53 (fun H locs (hG : mW X mo ad (sI S_6 33 2) s H locs) => ?_)
              refine lv_aload_n hx hb dX4_steps_56 rfl (lv_at hl 0 rfl) ?_
              refine lv_aload_n hx hb dX4_steps_57 rfl (lv_at hl 0 rfl) ?_
              refine m_get 38 (by decide) (v := .int (zI (v : Int))) (congrArg (fun z => Value.int (zI z)) (show (sI S_6 33 2).1 38 = (v : Int) from h38)) hx hb hts hown hG (hts _ q3334) dX4_steps_58 ?_
              refine m_put 31 (by decide) rfl rfl (tyX4_ok 31 (by decide)) rfl rfl hx hb hts hown hG (hts _ q3327) dX4_steps_61 (fun H locs (hG : mW X mo ad (sI (sI S_6 33 2) 31 (v : Int)) s H locs) => ?_)
              refine lv_aload_n hx hb dX4_steps_64 rfl (lv_at hl 0 rfl) ?_
              refine lv_aload_n hx hb dX4_steps_65 rfl (lv_at hl 0 rfl) ?_
              refine m_get 38 (by decide) (v := .int (zI (v : Int))) (congrArg (fun z => Value.int (zI z)) (show (sI (sI S_6 33 2) 31 (v : Int)).1 38 = (v : Int) from h38)) hx hb hts hown hG (hts _ q3334) dX4_steps_66 ?_
              refine lv_aload_n hx hb dX4_steps_69 rfl (lv_at hl 0 rfl) ?_
              refine m_get 36 (by decide) (v := .int (zI (kLQ k : Int))) (congrArg (fun z => Value.int (zI z)) (show (sI (sI S_6 33 2) 31 (v : Int)).1 36 = (kLQ k : Int) from (hl36.trans hL.2.2.1))) hx hb hts hown hG (hts _ q3332) dX4_steps_70 ?_
              refine g_iadd hx hb dX4_steps_73 ?_
              refine lv_aload_n hx hb dX4_steps_74 rfl (lv_at hl 0 rfl) ?_
              refine m_get 35 (by decide) (v := .int (zI (kLP k : Int))) (congrArg (fun z => Value.int (zI z)) (show (sI (sI S_6 33 2) 31 (v : Int)).1 35 = (kLP k : Int) from (hl35.trans hL.2.1))) hx hb hts hown hG (hts _ q3331) dX4_steps_75 ?_
              refine g_isub hx hb dX4_steps_78 ?_
              refine m_put 32 (by decide) rfl rfl (tyX4_ok 32 (by decide)) rfl rfl hx hb hts hown hG (hts _ q3328) dX4_steps_79 (fun H locs (hG : mW X mo ad (sI (sI (sI S_6 33 2) 31 (v : Int)) 32 (((v : Int) + (kLQ k : Int)) - (kLP k : Int))) s H locs) => ?_)
              refine lv_goto (tgt := 90) hx hb dX4_steps_82 (by decide) ?_
              refine lv_aload_n hx hb dX4_steps_90 rfl (lv_at hl 0 rfl) ?_
              refine m_get 33 (by decide) (v := .int (zI 2)) rfl hx hb hts hown hG (hts _ q3329) dX4_steps_91 ?_
              refine lv_iconst (v := zI 3) hx hb dX4_steps_94 (by decide +kernel) ?_
              refine g_cne (tgt := 109) hx hb dX4_steps_95 (by decide) (by omega) (fun hlo => ?_) (fun hlo => ?_)
              · refine lv_aload_n hx hb dX4_steps_109 rfl (lv_at hl 0 rfl) ?_
                refine lv_iload_n hx hb dX4_steps_110 rfl (lv_at hl 3 rfl) ?_
                refine m_put 34 (by decide) rfl rfl (tyX4_ok 34 (by decide)) rfl rfl hx hb hts hown hG (hts _ q3330) dX4_steps_111 (fun H locs (hG : mW X mo ad (sI (sI (sI (sI S_6 33 2) 31 (v : Int)) 32 (((v : Int) + (kLQ k : Int)) - (kLP k : Int))) 34 (b : Int)) s H locs) => ?_)
                refine lv_aload_n hx hb dX4_steps_114 rfl (lv_at hl 0 rfl) ?_
                refine lv_aload_n hx hb dX4_steps_115 rfl (lv_at hl 0 rfl) ?_
                refine m_get 31 (by decide) (v := .int (zI (v : Int))) rfl hx hb hts hown hG (hts _ q3327) dX4_steps_116 ?_
                refine m_put 35 (by decide) rfl rfl (tyX4_ok 35 (by decide)) rfl rfl hx hb hts hown hG (hts _ q3331) dX4_steps_119 (fun H locs (hG : mW X mo ad (sI (sI (sI (sI (sI S_6 33 2) 31 (v : Int)) 32 (((v : Int) + (kLQ k : Int)) - (kLP k : Int))) 34 (b : Int)) 35 (v : Int)) s H locs) => ?_)
                refine lv_aload_n hx hb dX4_steps_122 rfl (lv_at hl 0 rfl) ?_
                refine lv_aload_n hx hb dX4_steps_123 rfl (lv_at hl 0 rfl) ?_
                refine m_get 32 (by decide) (v := .int (zI (((v : Int) + (kLQ k : Int)) - (kLP k : Int)))) rfl hx hb hts hown hG (hts _ q3328) dX4_steps_124 ?_
                refine m_put 36 (by decide) rfl rfl (tyX4_ok 36 (by decide)) rfl rfl hx hb hts hown hG (hts _ q3332) dX4_steps_127 (fun H locs (hG : mW X mo ad (sI (sI (sI (sI (sI (sI S_6 33 2) 31 (v : Int)) 32 (((v : Int) + (kLQ k : Int)) - (kLP k : Int))) 34 (b : Int)) 35 (v : Int)) 36 (((v : Int) + (kLQ k : Int)) - (kLP k : Int))) s H locs) => ?_)
                exact m_vret hx hb hr hlocks hG (⟨mWk_at (o := 2) (b := b) (x := v) (y := (v + (kLQ k - kLP k))) ((wkStep_b (Or.inr hgn)).trans ((wkBack_s ((looks_s hbS).trans (if_pos hC))).trans (if_pos (by omega)))) (by decide) hb9 ⟨by omega, hvl, hb24⟩ ⟨rfl, rfl, (show (v : Int) + (kLQ k : Int) - (kLP k : Int) = ((v + (kLQ k - kLP k) : Nat) : Int) by omega), rfl, rfl, (show (v : Int) + (kLQ k : Int) - (kLP k : Int) = ((v + (kLQ k - kLP k) : Nat) : Int) by omega)⟩, (((((hsT.I (by decide) _).I (by decide) _).I (by decide) _).I (by decide) _).I (by decide) _).I (by decide) _⟩) ⟨Nat.le_of_ble_eq_true rfl, Nat.le_of_ble_eq_true rfl⟩ dX4_steps_130
              · exfalso; omega
    · obtain ⟨x, y, hg, hx31, hy32⟩ := hb1.elim (fun q => q.2) (fun q => absurd q.1 (by omega))
      have hgo := goesK_ok (fun i z hz => cmR_ln hz) hg
      refine lv_aload_n hx hb dX4_steps_18 rfl (lv_at hl 0 rfl) ?_
      refine lv_iconst (v := zI 1) hx hb dX4_steps_19 (by decide +kernel) ?_
      refine m_put 33 (by decide) rfl rfl (tyX4_ok 33 (by decide)) rfl rfl hx hb hts hown hG (hts _ q3329) dX4_steps_20 (fun H locs (hG : mW X mo ad (sI S_4 33 1) s H locs) => ?_)
      refine lv_goto (tgt := 90) hx hb dX4_steps_23 (by decide) ?_
      refine lv_aload_n hx hb dX4_steps_90 rfl (lv_at hl 0 rfl) ?_
      refine m_get 33 (by decide) (v := .int (zI 1)) rfl hx hb hts hown hG (hts _ q3329) dX4_steps_91 ?_
      refine lv_iconst (v := zI 3) hx hb dX4_steps_94 (by decide +kernel) ?_
      refine g_cne (tgt := 109) hx hb dX4_steps_95 (by decide) (by omega) (fun hlo => ?_) (fun hlo => ?_)
      · refine lv_aload_n hx hb dX4_steps_109 rfl (lv_at hl 0 rfl) ?_
        refine lv_iload_n hx hb dX4_steps_110 rfl (lv_at hl 3 rfl) ?_
        refine m_put 34 (by decide) rfl rfl (tyX4_ok 34 (by decide)) rfl rfl hx hb hts hown hG (hts _ q3330) dX4_steps_111 (fun H locs (hG : mW X mo ad (sI (sI S_4 33 1) 34 (b : Int)) s H locs) => ?_)
        refine lv_aload_n hx hb dX4_steps_114 rfl (lv_at hl 0 rfl) ?_
        refine lv_aload_n hx hb dX4_steps_115 rfl (lv_at hl 0 rfl) ?_
        refine m_get 31 (by decide) (v := .int (zI (x : Int))) (congrArg (fun z => Value.int (zI z)) (show (sI (sI S_4 33 1) 34 (b : Int)).1 31 = (x : Int) from hx31)) hx hb hts hown hG (hts _ q3327) dX4_steps_116 ?_
        refine m_put 35 (by decide) rfl rfl (tyX4_ok 35 (by decide)) rfl rfl hx hb hts hown hG (hts _ q3331) dX4_steps_119 (fun H locs (hG : mW X mo ad (sI (sI (sI S_4 33 1) 34 (b : Int)) 35 (x : Int)) s H locs) => ?_)
        refine lv_aload_n hx hb dX4_steps_122 rfl (lv_at hl 0 rfl) ?_
        refine lv_aload_n hx hb dX4_steps_123 rfl (lv_at hl 0 rfl) ?_
        refine m_get 32 (by decide) (v := .int (zI (y : Int))) (congrArg (fun z => Value.int (zI z)) (show (sI (sI (sI S_4 33 1) 34 (b : Int)) 35 (x : Int)).1 32 = (y : Int) from hy32)) hx hb hts hown hG (hts _ q3328) dX4_steps_124 ?_
        refine m_put 36 (by decide) rfl rfl (tyX4_ok 36 (by decide)) rfl rfl hx hb hts hown hG (hts _ q3332) dX4_steps_127 (fun H locs (hG : mW X mo ad (sI (sI (sI (sI S_4 33 1) 34 (b : Int)) 35 (x : Int)) 36 (y : Int)) s H locs) => ?_)
        exact m_vret hx hb hr hlocks hG (⟨mWk_at (o := 1) (b := b) (x := x) (y := y) (wkStep_1 (by omega) hg) (by decide) hb9 ⟨hgo.1, hgo.2, hb24⟩ ⟨rfl, hx31, hy32, rfl, rfl, rfl⟩, (((hs2.scr.I (by decide) _).I (by decide) _).I (by decide) _).I (by decide) _⟩) ⟨Nat.le_of_ble_eq_true rfl, Nat.le_of_ble_eq_true rfl⟩ dX4_steps_130
      · exfalso; omega

set_option maxHeartbeats 4000000 in
theorem metX4_puts {l : Launch} {X : gX} {mo : Nat} {ad : Nat → Nat} {S : mS} {w : aW} {x kd t le : Nat} (hO : mO S w) (hK : wOK w) (hx9 : x < wM w) (hkd : kd ≤ 6) (ht : t < wN w) (hl9 : ∀ n, beh (wFo w) t (rOn (wRk w x)) = some n → le ≤ n) : Met l yX4_puts (ws_ yX4_puts cX4_puts 7 (some FieldType.boolean)) ({ frames := 4, cells := 0, slots := 0, locals := 96 }) (mP X mo ad S [.ref mo, .int (zI (x : Int)), .int (zI (kd : Int)), .int (zI (t : Int)), .int (zI (le : Int))]) (mQi X mo ad (fun u T => ∃ b : Int, u = zI b ∧ ((b = 1 ∧ ∃ n, beh (wFo w) t (rOn (wRk w x)) = some n ∧ mWk T w (wkTo w (wRk w x) kd t n (n - le))) ∨ (b = 0 ∧ beh (wFo w) t (rOn (wRk w x)) = none)) ∧ mReal S T ∧ ∀ k, k ≠ 30 → T.2.1 k = S.2.1 k)) 0 0 (mA mo ad) := by
  refine Met.m (by decide) (Nat.le_of_ble_eq_true rfl) ?_
  intro p e s m below meth c ls hx hb hr hts hown hlocks hml hG hl
  have hl : lv_has ls 7 [(0, .ref mo), (1, .int (zI (x : Int))), (2, .int (zI (kd : Int))), (3, .int (zI (t : Int))), (4, .int (zI (le : Int)))] := hl
  have hNN := hK.n
  have hMM := hK.m
  refine lv_aload_n hx hb dX4_puts_0 rfl (lv_at hl 0 rfl) ?_
  refine lv_iload_n hx hb dX4_puts_1 rfl (lv_at hl 3 rfl) ?_
  refine lv_aload_n hx hb dX4_puts_2 rfl (lv_at hl 0 rfl) ?_
  refine lv_iconst (v := zI 2) hx hb dX4_puts_3 (by decide +kernel) ?_
  refine lv_iload_n hx hb dX4_puts_4 rfl (lv_at hl 1 rfl) ?_
  refine m_ci (va_runV (As := [.int (zI 2), .int (zI (x : Int))]) (rest := [.int (zI (t : Int)), .ref mo]) ⟨hx, hb, hml, hown, hts⟩ (metX4_of 2 (m0 := x) (by omega)) (cwV 2 hts (lw_V q3467 q3469 qs47 q102 q3470) rfl rfl rfl (by decide +kernel) ⟨Nat.le_of_ble_eq_true rfl, Nat.le_of_ble_eq_true rfl⟩) (m_preV hG) rfl rfl hl.1 rfl (lv_room (Nat.le_of_ble_eq_true rfl)) dX4_puts_5 ⟨Nat.le_of_ble_eq_true rfl, Nat.le_of_ble_eq_true rfl⟩) hG (fun r_1 S_2 H locs hp hG => ?_)
  obtain ⟨rfl, rfl⟩ := hp
  have hG : mW X mo ad S s H locs := hG
  refine g_topz (y := (rOn (wRk w x) : Int)) (hO.on (m := x) (by omega)) ?_
  have hv1 := hK.rk (m := x) (by omega)
  refine m_ci (va_runV (As := [.int (zI (t : Int)), .int (zI (rOn (wRk w x) : Int))]) (rest := []) ⟨hx, hb, hml, hown, hts⟩ (metX4_behind (t := t) (r := rOn (wRk w x)) hO hK ht (by omega)) (cwV 2 hts (lw_V q3563 q3565 qs60 q102 q3566) rfl rfl rfl (by decide +kernel) ⟨Nat.le_of_ble_eq_true rfl, Nat.le_of_ble_eq_true rfl⟩) (m_preV hG) rfl rfl hl.1 rfl (lv_room (Nat.le_of_ble_eq_true rfl)) dX4_puts_8 ⟨Nat.le_of_ble_eq_true rfl, Nat.le_of_ble_eq_true rfl⟩) hG (fun r_3 S_4 H locs hp hG => ?_)
  obtain ⟨rfl, har, hch⟩ := hp
  have hG : mW X mo ad S_4 s H locs := hG
  have hO2 := har.o hO (by decide)
  have hre := har.real (by decide)
  rcases hbh : beh (wFo w) t (rOn (wRk w x)) with _ | n
  · refine g_topz (x := oI none) (y := -1) rfl ?_
    refine lv_istore (lv' := [(5, .int (zI (-1))), (0, .ref mo), (1, .int (zI (x : Int))), (2, .int (zI (kd : Int))), (3, .int (zI (t : Int))), (4, .int (zI (le : Int)))]) hx hb dX4_puts_11 hl (by decide) rfl (fun ls hl => ?_)
    refine lv_iload hx hb dX4_puts_13 (lv_at hl 0 rfl) ?_
    refine lv_iconst (v := zI (-1)) hx hb dX4_puts_15 (by decide +kernel) ?_
    refine g_cne (tgt := 21) hx hb dX4_puts_16 (by decide) (by omega) (fun h6 => ?_) (fun h6 => ?_)
    · exfalso; omega
    · refine lv_iconst (v := zI 0) hx hb dX4_puts_19 (by decide +kernel) ?_
      exact m_zret hx hb hr hlocks rfl hG (⟨0, rfl, Or.inr ⟨rfl, rfl⟩, hre, fun k hk => har.2.2 k hk⟩) ⟨Nat.le_of_ble_eq_true rfl, Nat.le_of_ble_eq_true rfl⟩ dX4_puts_20
  · obtain ⟨hle, hfo, hend⟩ := beh_anc hK.fo n t (rOn (wRk w x)) hbh
    have hln := hle n (Nat.le_refl n)
    have hless := hl9 n hbh
    refine g_topz (x := oI (some n)) (y := (n : Int)) rfl ?_
    refine lv_istore (lv' := [(5, .int (zI (n : Int))), (0, .ref mo), (1, .int (zI (x : Int))), (2, .int (zI (kd : Int))), (3, .int (zI (t : Int))), (4, .int (zI (le : Int)))]) hx hb dX4_puts_11 hl (by decide) rfl (fun ls hl => ?_)
    refine lv_iload hx hb dX4_puts_13 (lv_at hl 0 rfl) ?_
    refine lv_iconst (v := zI (-1)) hx hb dX4_puts_15 (by decide +kernel) ?_
    refine g_cne (tgt := 21) hx hb dX4_puts_16 (by decide) (by omega) (fun h6 => ?_) (fun h6 => ?_)
    · refine lv_aload_n hx hb dX4_puts_21 rfl (lv_at hl 1 rfl) ?_
      refine lv_iconst (v := zI 0) hx hb dX4_puts_22 (by decide +kernel) ?_
      refine m_put 33 (by decide) rfl rfl (tyX4_ok 33 (by decide)) rfl rfl hx hb hts hown hG (hts _ q3329) dX4_puts_23 (fun H locs (hG : mW X mo ad (sI S_4 33 0) s H locs) => ?_)
      refine lv_aload_n hx hb dX4_puts_26 rfl (lv_at hl 1 rfl) ?_
      refine lv_aload_n hx hb dX4_puts_27 rfl (lv_at hl 1 rfl) ?_
      refine lv_iconst (v := zI 3) hx hb dX4_puts_28 (by decide +kernel) ?_
      refine lv_iload_n hx hb dX4_puts_29 rfl (lv_at hl 2 rfl) ?_
      refine m_ci (va_runV (As := [.int (zI 3), .int (zI (x : Int))]) (rest := [.ref mo]) ⟨hx, hb, hml, hown, hts⟩ (metX4_of 3 (m0 := x) (by omega)) (cwV 2 hts (lw_V q3467 q3469 qs47 q102 q3470) rfl rfl rfl (by decide +kernel) ⟨Nat.le_of_ble_eq_true rfl, Nat.le_of_ble_eq_true rfl⟩) (m_preV hG) rfl rfl hl.1 rfl (lv_room (Nat.le_of_ble_eq_true rfl)) dX4_puts_30 ⟨Nat.le_of_ble_eq_true rfl, Nat.le_of_ble_eq_true rfl⟩) hG (fun r_5 S_6 H locs hp hG => ?_)
      obtain ⟨rfl, rfl⟩ := hp
      have hG : mW X mo ad (sI S_4 33 0) s H locs := hG
      refine g_topz (y := (rP (wRk w x) : Int)) (hO2.p (m := x) (by omega)) ?_
      have hv2 := hK.rk (m := x) (by omega)
      refine m_put 31 (by decide) rfl rfl (tyX4_ok 31 (by decide)) rfl rfl hx hb hts hown hG (hts _ q3327) dX4_puts_33 (fun H locs (hG : mW X mo ad (sI (sI S_4 33 0) 31 (rP (wRk w x) : Int)) s H locs) => ?_)
      refine lv_aload_n hx hb dX4_puts_36 rfl (lv_at hl 1 rfl) ?_
      refine lv_aload_n hx hb dX4_puts_37 rfl (lv_at hl 1 rfl) ?_
      refine lv_iconst (v := zI 4) hx hb dX4_puts_38 (by decide +kernel) ?_
      refine lv_iload_n hx hb dX4_puts_39 rfl (lv_at hl 2 rfl) ?_
      refine m_ci (va_runV (As := [.int (zI 4), .int (zI (x : Int))]) (rest := [.ref mo]) ⟨hx, hb, hml, hown, hts⟩ (metX4_of 4 (m0 := x) (by omega)) (cwV 2 hts (lw_V q3467 q3469 qs47 q102 q3470) rfl rfl rfl (by decide +kernel) ⟨Nat.le_of_ble_eq_true rfl, Nat.le_of_ble_eq_true rfl⟩) (m_preV hG) rfl rfl hl.1 rfl (lv_room (Nat.le_of_ble_eq_true rfl)) dX4_puts_40 ⟨Nat.le_of_ble_eq_true rfl, Nat.le_of_ble_eq_true rfl⟩) hG (fun r_7 S_8 H locs hp hG => ?_)
      obtain ⟨rfl, rfl⟩ := hp
      have hG : mW X mo ad (sI (sI S_4 33 0) 31 (rP (wRk w x) : Int)) s H locs := hG
      refine g_topz (y := (rQ (wRk w x) : Int)) (hO2.q (m := x) (by omega)) ?_
      have hv3 := hK.rk (m := x) (by omega)
      refine m_put 32 (by decide) rfl rfl (tyX4_ok 32 (by decide)) rfl rfl hx hb hts hown hG (hts _ q3328) dX4_puts_43 (fun H locs (hG : mW X mo ad (sI (sI (sI S_4 33 0) 31 (rP (wRk w x) : Int)) 32 (rQ (wRk w x) : Int)) s H locs) => ?_)
      refine lv_aload_n hx hb dX4_puts_46 rfl (lv_at hl 1 rfl) ?_
      refine lv_aload_n hx hb dX4_puts_47 rfl (lv_at hl 1 rfl) ?_
      refine lv_iconst (v := zI 2) hx hb dX4_puts_48 (by decide +kernel) ?_
      refine lv_iload_n hx hb dX4_puts_49 rfl (lv_at hl 2 rfl) ?_
      refine m_ci (va_runV (As := [.int (zI 2), .int (zI (x : Int))]) (rest := [.ref mo]) ⟨hx, hb, hml, hown, hts⟩ (metX4_of 2 (m0 := x) (by omega)) (cwV 2 hts (lw_V q3467 q3469 qs47 q102 q3470) rfl rfl rfl (by decide +kernel) ⟨Nat.le_of_ble_eq_true rfl, Nat.le_of_ble_eq_true rfl⟩) (m_preV hG) rfl rfl hl.1 rfl (lv_room (Nat.le_of_ble_eq_true rfl)) dX4_puts_50 ⟨Nat.le_of_ble_eq_true rfl, Nat.le_of_ble_eq_true rfl⟩) hG (fun r_9 S_10 H locs hp hG => ?_)
      obtain ⟨rfl, rfl⟩ := hp
      have hG : mW X mo ad (sI (sI (sI S_4 33 0) 31 (rP (wRk w x) : Int)) 32 (rQ (wRk w x) : Int)) s H locs := hG
      refine g_topz (y := (rOn (wRk w x) : Int)) (hO2.on (m := x) (by omega)) ?_
      have hv4 := hK.rk (m := x) (by omega)
      refine m_put 34 (by decide) rfl rfl (tyX4_ok 34 (by decide)) rfl rfl hx hb hts hown hG (hts _ q3330) dX4_puts_53 (fun H locs (hG : mW X mo ad (sI (sI (sI (sI S_4 33 0) 31 (rP (wRk w x) : Int)) 32 (rQ (wRk w x) : Int)) 34 (rOn (wRk w x) : Int)) s H locs) => ?_)
      refine lv_aload_n hx hb dX4_puts_56 rfl (lv_at hl 1 rfl) ?_
      refine lv_aload_n hx hb dX4_puts_57 rfl (lv_at hl 1 rfl) ?_
      refine m_get 31 (by decide) (v := .int (zI (rP (wRk w x) : Int))) rfl hx hb hts hown hG (hts _ q3327) dX4_puts_58 ?_
      refine m_put 35 (by decide) rfl rfl (tyX4_ok 35 (by decide)) rfl rfl hx hb hts hown hG (hts _ q3331) dX4_puts_61 (fun H locs (hG : mW X mo ad (sI (sI (sI (sI (sI S_4 33 0) 31 (rP (wRk w x) : Int)) 32 (rQ (wRk w x) : Int)) 34 (rOn (wRk w x) : Int)) 35 (rP (wRk w x) : Int)) s H locs) => ?_)
      refine lv_aload_n hx hb dX4_puts_64 rfl (lv_at hl 1 rfl) ?_
      refine lv_aload_n hx hb dX4_puts_65 rfl (lv_at hl 1 rfl) ?_
      refine m_get 32 (by decide) (v := .int (zI (rQ (wRk w x) : Int))) rfl hx hb hts hown hG (hts _ q3328) dX4_puts_66 ?_
      refine m_put 36 (by decide) rfl rfl (tyX4_ok 36 (by decide)) rfl rfl hx hb hts hown hG (hts _ q3332) dX4_puts_69 (fun H locs (hG : mW X mo ad (sI (sI (sI (sI (sI (sI S_4 33 0) 31 (rP (wRk w x) : Int)) 32 (rQ (wRk w x) : Int)) 34 (rOn (wRk w x) : Int)) 35 (rP (wRk w x) : Int)) 36 (rQ (wRk w x) : Int)) s H locs) => ?_)
      refine lv_iload hx hb dX4_puts_72 (lv_at hl 0 rfl) ?_
      refine lv_iconst (v := zI 1) hx hb dX4_puts_74 (by decide +kernel) ?_
      refine g_isub hx hb dX4_puts_75 ?_
      refine lv_istore (lv' := [(6, .int (zI ((n : Int) - 1))), (5, .int (zI (n : Int))), (0, .ref mo), (1, .int (zI (x : Int))), (2, .int (zI (kd : Int))), (3, .int (zI (t : Int))), (4, .int (zI (le : Int)))]) hx hb dX4_puts_76 hl (by decide) rfl (fun ls hl => ?_)
      have hl : lv_has ls 7 [(6, .int (zI ((n : Int) - 1 - ((0 : Nat) : Int)))), (5, .int (zI (n : Int))), (0, .ref mo), (1, .int (zI (x : Int))), (2, .int (zI (kd : Int))), (3, .int (zI (t : Int))), (4, .int (zI (le : Int)))] := by rw [show ((n : Int) - 1 - ((0 : Nat) : Int)) = (n : Int) - 1 from Int.sub_zero _]; exact hl
      refine g_loop (fun mz H locs ls => ∃ (d : Nat) (T : mS), (d + le ≤ n ∧ mz = n - d ∧ mWk T w (wkTo w (wRk w x) kd t n d) ∧ mReal S T ∧ (∀ k, k ≤ n → T.2.1 30 k = (anc (wFo w) k t : Nat)) ∧ ∀ k, k ≠ 30 → T.2.1 k = S.2.1 k) ∧ mW X mo ad T s H locs ∧ lv_has ls 7 [(0, .ref mo), (1, .int (zI (x : Int))), (2, .int (zI (kd : Int))), (3, .int (zI (t : Int))), (4, .int (zI (le : Int))), (5, .int (zI (n : Int))), (6, .int (zI ((n : Int) - 1 - (d : Int))))]) (n - 0) ⟨0, (sI (sI (sI (sI (sI (sI S_4 33 0) 31 (rP (wRk w x) : Int)) 32 (rQ (wRk w x) : Int)) 34 (rOn (wRk w x) : Int)) 35 (rP (wRk w x) : Int)) 36 (rQ (wRk w x) : Int)), ⟨by omega, rfl, ⟨rfl, fun _ => ⟨rfl, rfl, by show rP _ ≤ rQ _; omega, by show rQ _ < 24; omega⟩, (fun q => by cases q), ⟨rfl, rfl, rfl, by show rOn _ < _; omega, by show rP _ ≤ rQ _; omega, by show rQ _ < (wTx w (rOn _)).length; omega⟩, by show 0 ≤ 3; decide⟩, (((((hre.I (by decide) _).I (by decide) _).I (by decide) _).I (by decide) _).I (by decide) _).I (by decide) _, hch n hbh, fun k hk => har.2.2 k hk⟩, hG, (lv_sub hl [2, 3, 4, 5, 6, 1, 0] rfl)⟩ (fun mz ihA H locs ls hI => ?_)
      obtain ⟨d, T, ⟨hd, hmz, hW, hre, hch, hpl⟩, hG, hl⟩ := hI
      refine lv_iload hx hb dX4_puts_78 (lv_at hl 6 rfl) ?_
      refine lv_iload hx hb dX4_puts_80 (lv_at hl 4 rfl) ?_
      refine g_clt (tgt := 109) hx hb dX4_puts_82 (by decide) (by omega) (fun h7 => ?_) (fun h7 => ?_)
      · have hdn : d = n - le := by omega
        subst hdn
        refine lv_iconst (v := zI 1) hx hb dX4_puts_109 (by decide +kernel) ?_
        exact m_zret hx hb hr hlocks rfl hG (⟨1, rfl, Or.inl ⟨rfl, n, rfl, hW⟩, hre, hpl⟩) ⟨Nat.le_of_ble_eq_true rfl, Nat.le_of_ble_eq_true rfl⟩ dX4_puts_110
      · have hA1 := hle (n - (d + 1)) (by omega)
        have hA2 := hfo (n - (d + 1)) (by omega)
        have hO3 := hO.real hre
        refine lv_aload_n hx hb dX4_puts_85 rfl (lv_at hl 0 rfl) ?_
        refine lv_iload_n hx hb dX4_puts_86 rfl (lv_at hl 2 rfl) ?_
        refine lv_aload_n hx hb dX4_puts_87 rfl (lv_at hl 0 rfl) ?_
        refine lv_iconst (v := zI 1) hx hb dX4_puts_88 (by decide +kernel) ?_
        refine lv_iload_n hx hb dX4_puts_89 rfl (lv_at hl 1 rfl) ?_
        refine m_ci (va_runV (As := [.int (zI 1), .int (zI (x : Int))]) (rest := [.int (zI (kd : Int)), .ref mo]) ⟨hx, hb, hml, hown, hts⟩ (metX4_of 1 (m0 := x) (by omega)) (cwV 2 hts (lw_V q3467 q3469 qs47 q102 q3470) rfl rfl rfl (by decide +kernel) ⟨Nat.le_of_ble_eq_true rfl, Nat.le_of_ble_eq_true rfl⟩) (m_preV hG) rfl rfl hl.1 rfl (lv_room (Nat.le_of_ble_eq_true rfl)) dX4_puts_90 ⟨Nat.le_of_ble_eq_true rfl, Nat.le_of_ble_eq_true rfl⟩) hG (fun r_11 S_12 H locs hp hG => ?_)
        obtain ⟨rfl, rfl⟩ := hp
        have hG : mW X mo ad T s H locs := hG
        refine g_topz (y := (rBy (wRk w x) : Int)) (hO3.by (m := x) (by omega)) ?_
        have hv5 := hK.rk (m := x) (by omega)
        refine lv_aload_n hx hb dX4_puts_93 rfl (lv_at hl 0 rfl) ?_
        refine m_get 30 (by decide) (v := .ref (ad 30)) rfl hx hb hts hown hG (hts _ q3326) dX4_puts_94 ?_
        refine lv_iload hx hb dX4_puts_97 (lv_at hl 6 rfl) ?_
        refine m_iald 30 rfl rfl (by decide) (n - (d + 1)) (v := (anc (wFo w) (n - (d + 1)) t : Int)) ⟨by omega, by show _ < 16; omega⟩ (show T.2.1 30 (n - (d + 1)) = (anc (wFo w) (n - (d + 1)) t : Int) from (hch _ (by omega))) hx hb hG dX4_puts_99 ?_
        refine m_cv (va_runV (As := [.int (zI (kd : Int)), .int (zI (rBy (wRk w x) : Int)), .int (zI (anc (wFo w) (n - (d + 1)) t : Int))]) (rest := []) ⟨hx, hb, hml, hown, hts⟩ (metX4_steps (k := wkTo w (wRk w x) kd t n d) (b := anc (wFo w) (n - (d + 1)) t) (kd := kd) (a := rBy (wRk w x)) hO3 hK (by omega) (by rw [hA2]; exact nofun) hW ⟨hkd, by omega⟩) (cwV 3 hts (lw_V q3615 q3617 qs68 q102 q3618) rfl rfl rfl (by decide +kernel) ⟨Nat.le_of_ble_eq_true rfl, Nat.le_of_ble_eq_true rfl⟩) (m_preV hG) rfl rfl hl.1 rfl (lv_room (Nat.le_of_ble_eq_true rfl)) dX4_puts_100 ⟨Nat.le_of_ble_eq_true rfl, Nat.le_of_ble_eq_true rfl⟩) hG (fun S_14 H locs hp hG => ?_)
        obtain ⟨hW9, hs9⟩ := hp
        have hG : mW X mo ad S_14 s H locs := hG
        refine lv_iinc (v := zI (((n : Int) - 1 - (d : Int)) - 1 : Int)) (lv' := [(6, .int (zI (((n : Int) - 1 - (d : Int)) - 1 : Int))), (0, .ref mo), (1, .int (zI (x : Int))), (2, .int (zI (kd : Int))), (3, .int (zI (t : Int))), (4, .int (zI (le : Int))), (5, .int (zI (n : Int)))]) hx hb dX4_puts_103 hl (k := 6) rfl ((zI_add _ _).trans (congrArg zI (by omega))) (by decide) rfl (fun ls hl => ?_)
        have hl : lv_has ls 7 [(6, .int (zI ((n : Int) - 1 - ((d + 1 : Nat) : Int)))), (0, .ref mo), (1, .int (zI (x : Int))), (2, .int (zI (kd : Int))), (3, .int (zI (t : Int))), (4, .int (zI (le : Int))), (5, .int (zI (n : Int)))] := by rw [show ((n : Int) - 1 - ((d + 1 : Nat) : Int)) = (n : Int) - 1 - (d : Int) - 1 by omega]; exact hl
        refine lv_goto (tgt := 78) hx hb dX4_puts_106 (by decide) ?_
        exact ihA (n - (d + 1)) (by omega) H locs ls ⟨(d + 1), S_14, ⟨by omega, rfl, hW9, hre.tr hs9.real, (fun k hk => by rw [hs9.1]; exact hch k hk), fun k hk => by rw [hs9.1]; exact hpl k hk⟩, hG, (lv_sub hl [1, 2, 3, 4, 5, 6, 0] rfl)⟩
    · exfalso; omega

