set_option maxRecDepth 100000
section G4
variable {p : Program} {l : Launch} {e : Env} {R : Room} {s : State} {m : MethodId} {args : Array Value} {below : List Frame} {meth : Method} {c : Code} {H : Heap} {locs : List Loc} {cells slots : Nat} {Q : State → Prop}
variable {cc : ByteArray} {pc : Nat} {ls : Array Slot} {rest : List Value}
theorem g_look (hx : p.tables.exec = Jvm.exec) (hb : c.code = cc) {dflt : Int} {ps : Array (Int × Int)} {len : Nat} {z : Int} (k : Int) {off : Int} {tgt : Nat} (d : decode cc pc = .ok (.lookupswitch dflt ps, len)) (hz : z = k) (hk : zR k) (hp : (ps.toList.zip (ps.toList.drop 1)).all (fun (a, next) => a.1 < next.1) = true) (ho : Op.lookupswitch.offset ps.toList dflt k = off) (ht : (pc : Int) + off = (tgt : Int))
    (kk : W p l e R s m args below meth c H locs cells slots Q (F0 m tgt ls rest)) : W p l e R s m args below meth c H locs cells slots Q (F0 m pc ls (.int (zI z) :: rest)) := by
  subst hz
  exact lv_lookup hx hb d hp (by rw [zI_toInt hk]; exact ho) ht kk
theorem g_joinM (pc2 : Nat) (G : Heap → List Loc → Prop) (nL : Nat) (lv : List (Nat × Value)) {st0 : List Value} (K : ∀ (H : Heap) (locs : List Loc) (ls : Array Slot), G H locs → lv_has ls nL lv → W p l e R s m args below meth c H locs cells slots Q (F0 m pc2 ls []))
    (k : (∀ (H : Heap) (locs : List Loc) (ls : Array Slot), G H locs → lv_has ls nL lv → W p l e R s m args below meth c H locs cells slots Q (F0 m pc2 ls [])) → W p l e R s m args below meth c H locs cells slots Q (F0 m pc ls st0)) : W p l e R s m args below meth c H locs cells slots Q (F0 m pc ls st0) := k K
end G4
theorem fL_cases {cf : Nat → Option Nat} {N : Nat} (h : ∀ i x, cf i = some x → x < N) (p : Nat) : ∀ k, fCnt cf p k ≤ k ∧ ((fLow cf p k = none ∧ fHigh cf p k = none ∧ fCnt cf p k = 0) ∨ ∃ y z, fLow cf p k = some y ∧ fHigh cf p k = some z ∧ 0 < fCnt cf p k ∧ y ≤ z ∧ z < N) := by
  intro k
  induction k with
  | zero => exact ⟨Nat.le_refl _, Or.inl ⟨rfl, rfl, rfl⟩⟩
  | succ k ih =>
    unfold fLow fHigh fCnt
    cases hc : cf (p + k) with
    | none =>
      refine ⟨by show fCnt cf p k + 0 ≤ k + 1; omega, ?_⟩
      rcases ih.2 with ⟨h1, h2, h3⟩ | ⟨y, z, h1, h2, h3, h4⟩
      · left; rw [h1, h2, h3]; exact ⟨rfl, rfl, rfl⟩
      · right; rw [h1, h2]; exact ⟨y, z, rfl, rfl, h3, h4⟩
    | some x =>
      have hx := h _ _ hc
      refine ⟨by show fCnt cf p k + 1 ≤ k + 1; omega, Or.inr ?_⟩
      rcases ih.2 with ⟨h1, h2, h3⟩ | ⟨y, z, h1, h2, h3, h4, h5⟩
      · rw [h1, h2]; exact ⟨x, x, rfl, rfl, by show 0 < _ + 1; omega, Nat.le_refl _, hx⟩
      · rw [h1, h2]; exact ⟨min y x, max z x, rfl, rfl, by show 0 < _ + 1; omega, by omega, by omega⟩
theorem fL_n {cf : Nat → Option Nat} {p k : Nat} (h : cf (p + k) = none) : fLow cf p (k + 1) = fLow cf p k ∧ fHigh cf p (k + 1) = fHigh cf p k ∧ fCnt cf p (k + 1) = fCnt cf p k := by
  rw [fLow, fHigh, fCnt, h]
  refine ⟨?_, ?_, rfl⟩
  · cases fLow cf p k <;> rfl
  · cases fHigh cf p k <;> rfl
theorem fL_0 {cf : Nat → Option Nat} {p k x : Nat} (h : cf (p + k) = some x) (h1 : fLow cf p k = none ∧ fHigh cf p k = none) : fLow cf p (k + 1) = some x ∧ fHigh cf p (k + 1) = some x ∧ fCnt cf p (k + 1) = fCnt cf p k + 1 := by
  rw [fLow, fHigh, fCnt, h, h1.1, h1.2]; exact ⟨rfl, rfl, rfl⟩
theorem fL_1 {cf : Nat → Option Nat} {p k x y z : Nat} (h : cf (p + k) = some x) (h1 : fLow cf p k = some y ∧ fHigh cf p k = some z) : fLow cf p (k + 1) = some (min y x) ∧ fHigh cf p (k + 1) = some (max z x) ∧ fCnt cf p (k + 1) = fCnt cf p k + 1 := by
  rw [fLow, fHigh, fCnt, h, h1.1, h1.2]; exact ⟨rfl, rfl, rfl⟩
theorem upC_n {cf : Nat → Option Nat} {i : Nat} (h : cf (i + 1) = none) : upC cf (i + 1) = upC cf i := by unfold upC; rw [h]; cases i <;> rfl
theorem upC_s {cf : Nat → Option Nat} {i x : Nat} (h : cf i = some x) : upC cf i = some x := by cases i <;> (unfold upC; rw [h])
theorem upC_lt {cf : Nat → Option Nat} {N : Nat} (h : ∀ i x, cf i = some x → x < N) : ∀ p x, upC cf p = some x → x < N := by
  intro p
  induction p with
  | zero => intro x hx; exact h 0 x hx
  | succ p ih =>
    intro x hx
    cases hc : cf (p + 1) with
    | none => rw [upC_n hc] at hx; exact ih x hx
    | some y => rw [upC_s hc] at hx; cases hx; exact h _ _ hc
theorem fSpan_n {cf : Nat → Option Nat} {p k : Nat} (h : fLow cf p k = none) : fSpan cf p k = none := by unfold fSpan; rw [h]
theorem fSpan_s {cf : Nat → Option Nat} {p k y z : Nat} (h : fLow cf p k = some y) (g : fHigh cf p k = some z) : fSpan cf p k = some (y, z) := by unfold fSpan; rw [h, g]
theorem goesK_ok {cf : Nat → Option Nat} {nb kd a p q x y : Nat} (h : ∀ i z, cf i = some z → z < nb) (g : goesK cf nb kd a p q = some (x, y)) : x ≤ y ∧ y < nb := by
  unfold goesK at g
  by_cases h1 : kd = 1
  · rw [if_pos h1] at g
    cases hc : cf p with
    | none => rw [hc] at g; cases g
    | some z => rw [hc] at g; cases g; exact ⟨Nat.le_refl _, h _ _ hc⟩
  rw [if_neg h1] at g
  by_cases h3 : kd = 3
  · rw [if_pos h3] at g
    cases hc : upC cf p with
    | none => rw [hc] at g; cases g
    | some z => rw [hc] at g; cases g; exact ⟨Nat.le_refl _, upC_lt h _ _ hc⟩
  rw [if_neg h3] at g
  by_cases h6 : kd = 6
  · rw [if_pos h6] at g
    cases hc : upC cf p with
    | none => rw [hc] at g; cases g
    | some z => rw [hc] at g; cases g; have := upC_lt h _ _ hc; omega
  rw [if_neg h6] at g
  rcases (fL_cases h p (q - p + 1)).2 with ⟨q1, q2, q3⟩ | ⟨u, v, q1, q2, q3, q4, q5⟩
  · rw [fSpan_n q1] at g; cases g
  · rw [fSpan_s q1 q2] at g
    have g : (if kd = 4 then (if a * (q - p + 1) ≤ 10 * fCnt cf p (q - p + 1) then some (u, v) else none) else if kd = 2 then (if fCnt cf p (q - p + 1) = q - p + 1 ∧ v - u + 1 ≤ q - p + 1 then some (u, v) else none) else if kd = 5 then (if fCnt cf p (q - p + 1) = q - p + 1 ∧ v - u + 1 ≤ q - p + 1 + a then some (u, v) else none) else some (u, v)) = some (x, y) := g
    (repeat' split at g) <;> first | (cases g; exact ⟨q4, q5⟩) | cases g
def mSc2 (S T : mS) : Prop := T.2 = S.2 ∧ ∀ k, k ≠ 31 → k ≠ 32 → T.1 k = S.1 k
theorem mSc2.mk {S : mS} {x y : Int} : mSc2 S (sI (sI S 31 x) 32 y) := ⟨rfl, fun k h1 h2 => (sI_n h2).trans (sI_n h1)⟩
theorem mSc2.I {S T : mS} {y : Int} (h : mSc2 S T) : mSc2 S (sI T 32 y) := ⟨h.1, fun k h1 h2 => (sI_n h2).trans (h.2 k h1 h2)⟩
set_option maxHeartbeats 4000000 in
theorem metX4_follows {l : Launch} {X : gX} {mo : Nat} {ad : Nat → Nat} {S : mS} {b pp n : Nat} {cf : Nat → Option Nat} (hb9 : b < 16) (hc : ∀ i, i < 24 → S.2.1 4 (24 * b + i) = oI (cf i)) (hc24 : ∀ i x, cf i = some x → x < 1000) (hpq : S.1 31 = (pp : Nat) ∧ S.1 32 = (pp : Int) + (n : Int) - 1 ∧ pp + n ≤ 24) : Met l yX4_follows (ws_ yX4_follows cX4_follows 7 (some FieldType.int)) ({ frames := 1, cells := 0, slots := 0, locals := 21 }) (mP X mo ad S [.ref mo, .int (zI (b : Int))]) (mQi X mo ad (fun u T => u = zI (fCnt cf pp n : Nat) ∧ sI (sI S 31 (oI (fLow cf pp n))) 32 (oI (fHigh cf pp n)) = T)) 0 0 (mA mo ad) := by
  refine Met.m (by decide) (Nat.le_of_ble_eq_true rfl) ?_
  intro p e s m below meth c ls hx hb hr hts hown hlocks hml hG hl
  have hl : lv_has ls 7 [(0, .ref mo), (1, .int (zI (b : Int)))] := hl
  refine lv_iconst (v := zI (-1)) hx hb dX4_follows_0 (by decide +kernel) ?_
  refine lv_istore_n (lv' := [(2, .int (zI (-1))), (0, .ref mo), (1, .int (zI (b : Int)))]) hx hb dX4_follows_1 rfl hl (by decide) rfl (fun ls hl => ?_)
  refine lv_iconst (v := zI (-1)) hx hb dX4_follows_2 (by decide +kernel) ?_
  refine lv_istore_n (lv' := [(3, .int (zI (-1))), (2, .int (zI (-1))), (0, .ref mo), (1, .int (zI (b : Int)))]) hx hb dX4_follows_3 rfl hl (by decide) rfl (fun ls hl => ?_)
  refine lv_iconst (v := zI 0) hx hb dX4_follows_4 (by decide +kernel) ?_
  refine lv_istore (lv' := [(4, .int (zI 0)), (3, .int (zI (-1))), (2, .int (zI (-1))), (0, .ref mo), (1, .int (zI (b : Int)))]) hx hb dX4_follows_5 hl (by decide) rfl (fun ls hl => ?_)
  refine lv_aload_n hx hb dX4_follows_7 rfl (lv_at hl 3 rfl) ?_
  refine m_get 31 (by decide) (v := .int (zI (pp : Int))) (congrArg (fun z => Value.int (zI z)) (show S.1 31 = (pp : Int) from hpq.1)) hx hb hts hown hG (hts _ q3327) dX4_follows_8 ?_
  refine lv_istore (lv' := [(5, .int (zI (pp : Int))), (4, .int (zI 0)), (3, .int (zI (-1))), (2, .int (zI (-1))), (0, .ref mo), (1, .int (zI (b : Int)))]) hx hb dX4_follows_11 hl (by decide) rfl (fun ls hl => ?_)
  refine g_loop (fun mz H locs ls => ∃ (k : Nat), (k ≤ n ∧ mz = n - k) ∧ mW X mo ad S s H locs ∧ lv_has ls 7 [(0, .ref mo), (1, .int (zI (b : Int))), (2, .int (zI (oI (fLow cf pp k)))), (3, .int (zI (oI (fHigh cf pp k)))), (4, .int (zI (fCnt cf pp k : Int))), (5, .int (zI ((pp : Int) + (k : Int))))]) (n - 0) ⟨0, ⟨Nat.zero_le _, rfl⟩, hG, (lv_sub hl [4, 5, 3, 2, 1, 0] rfl)⟩ (fun mz ihA H locs ls hI => ?_)
  obtain ⟨k, ⟨hk, hmz⟩, hG, hl⟩ := hI
  obtain ⟨hcl, hcs⟩ := fL_cases hc24 pp k
  refine lv_iload hx hb dX4_follows_13 (lv_at hl 5 rfl) ?_
  refine lv_aload_n hx hb dX4_follows_15 rfl (lv_at hl 0 rfl) ?_
  refine m_get 32 (by decide) (v := .int (zI ((pp : Int) + (n : Int) - 1))) (congrArg (fun z => Value.int (zI z)) (show S.1 32 = ((pp : Int) + (n : Int) - 1) from hpq.2.1)) hx hb hts hown hG (hts _ q3328) dX4_follows_16 ?_
  refine g_cgt (tgt := 78) hx hb dX4_follows_19 (by decide) (by omega) (fun h1 => ?_) (fun h1 => ?_)
  · have hkn : k = n := by omega
    subst hkn
    refine lv_aload_n hx hb dX4_follows_78 rfl (lv_at hl 0 rfl) ?_
    refine lv_iload_n hx hb dX4_follows_79 rfl (lv_at hl 2 rfl) ?_
    refine m_put 31 (by decide) rfl rfl (tyX4_ok 31 (by decide)) rfl rfl hx hb hts hown hG (hts _ q3327) dX4_follows_80 (fun H locs (hG : mW X mo ad (sI S 31 (oI (fLow cf pp k))) s H locs) => ?_)
    refine lv_aload_n hx hb dX4_follows_83 rfl (lv_at hl 0 rfl) ?_
    refine lv_iload_n hx hb dX4_follows_84 rfl (lv_at hl 3 rfl) ?_
    refine m_put 32 (by decide) rfl rfl (tyX4_ok 32 (by decide)) rfl rfl hx hb hts hown hG (hts _ q3328) dX4_follows_85 (fun H locs (hG : mW X mo ad (sI (sI S 31 (oI (fLow cf pp k))) 32 (oI (fHigh cf pp k))) s H locs) => ?_)
    refine lv_iload hx hb dX4_follows_88 (lv_at hl 4 rfl) ?_
    exact m_iret hx hb hr hlocks hG (⟨rfl, rfl⟩) ⟨Nat.le_of_ble_eq_true rfl, Nat.le_of_ble_eq_true rfl⟩ dX4_follows_90
  · refine lv_aload_n hx hb dX4_follows_22 rfl (lv_at hl 0 rfl) ?_
    refine m_get 4 (by decide) (v := .ref (ad 4)) rfl hx hb hts hown hG (hts _ q3300) dX4_follows_23 ?_
    refine lv_bipush (v := zI 24) hx hb dX4_follows_26 (by decide +kernel) ?_
    refine lv_iload_n hx hb dX4_follows_28 rfl (lv_at hl 1 rfl) ?_
    refine g_imul hx hb dX4_follows_29 ?_
    refine lv_iload hx hb dX4_follows_30 (lv_at hl 5 rfl) ?_
    refine g_iadd hx hb dX4_follows_32 ?_
    refine m_iald 4 rfl rfl (by decide) (24 * b + (pp + k)) (v := (oI (cf (pp + k)))) ⟨by omega, by show _ < 384; omega⟩ (show S.2.1 4 (24 * b + (pp + k)) = (oI (cf (pp + k))) from (hc _ (by omega))) hx hb hG dX4_follows_33 ?_
    refine lv_istore (lv' := [(6, .int (zI (oI (cf (pp + k))))), (0, .ref mo), (1, .int (zI (b : Int))), (2, .int (zI (oI (fLow cf pp k)))), (3, .int (zI (oI (fHigh cf pp k)))), (4, .int (zI (fCnt cf pp k : Int))), (5, .int (zI ((pp : Int) + (k : Int))))]) hx hb dX4_follows_34 hl (by decide) rfl (fun ls hl => ?_)
    refine lv_iload hx hb dX4_follows_36 (lv_at hl 0 rfl) ?_
    refine lv_iconst (v := zI (-1)) hx hb dX4_follows_38 (by decide +kernel) ?_
    refine g_cne (tgt := 45) hx hb dX4_follows_39 (by decide) (by have q := oI_R (cf (pp + k)) (fun x hx => hc24 _ x hx); omega) (fun h2 => ?_) (fun h2 => ?_)
    · obtain ⟨x, hx9⟩ : ∃ z9, cf (pp + k) = some z9 := by cases hq : cf (pp + k) with
      | none => exact absurd (oI_m1.mpr hq) (by omega)
      | some z => exact ⟨z, rfl⟩
      have hx24 := hc24 _ _ hx9
      have hl : lv_has ls 7 [(6, .int (zI (x : Int))), (0, .ref mo), (1, .int (zI (b : Int))), (2, .int (zI (oI (fLow cf pp k)))), (3, .int (zI (oI (fHigh cf pp k)))), (4, .int (zI (fCnt cf pp k : Int))), (5, .int (zI ((pp : Int) + (k : Int))))] := by rw [hx9, oI_some] at hl; exact hl
      rcases hcs with ⟨q1, q2, q3⟩ | ⟨y, z, q1, q2, q3, q4, q5⟩
      · have hl : lv_has ls 7 [(6, .int (zI (x : Int))), (0, .ref mo), (1, .int (zI (b : Int))), (2, .int (zI (oI (fLow cf pp k)))), (3, .int (zI (-1))), (4, .int (zI (fCnt cf pp k : Int))), (5, .int (zI ((pp : Int) + (k : Int))))] := by rw [q2] at hl; exact hl
        refine lv_iload hx hb dX4_follows_45 (lv_at hl 5 rfl) ?_
        refine g_ne (tgt := 55) hx hb dX4_follows_47 (by decide) (by omega) (fun h3 => ?_) (fun h3 => ?_)
        · exfalso; omega
        · refine lv_iload hx hb dX4_follows_50 (lv_at hl 0 rfl) ?_
          refine lv_goto (tgt := 61) hx hb dX4_follows_52 (by decide) ?_
          refine lv_istore_n (lv' := [(2, .int (zI (x : Int))), (6, .int (zI (x : Int))), (0, .ref mo), (1, .int (zI (b : Int))), (3, .int (zI (-1))), (4, .int (zI (fCnt cf pp k : Int))), (5, .int (zI ((pp : Int) + (k : Int))))]) hx hb dX4_follows_61 rfl hl (by decide) rfl (fun ls hl => ?_)
          refine lv_iload_n hx hb dX4_follows_62 rfl (lv_at hl 4 rfl) ?_
          refine lv_iload hx hb dX4_follows_63 (lv_at hl 1 rfl) ?_
          refine g_max hx hb (hml.trans hl.1.symm) hts hown (hts _ q3513) ⟨Nat.le_of_ble_eq_true rfl, Nat.le_of_ble_eq_true rfl, Nat.le_of_ble_eq_true rfl, Nat.le_of_ble_eq_true rfl⟩ (by omega) dX4_follows_65 ?_
          refine lv_istore_n (lv' := [(3, .int (zI (max (-1) (x : Int)))), (2, .int (zI (x : Int))), (6, .int (zI (x : Int))), (0, .ref mo), (1, .int (zI (b : Int))), (4, .int (zI (fCnt cf pp k : Int))), (5, .int (zI ((pp : Int) + (k : Int))))]) hx hb dX4_follows_68 rfl hl (by decide) rfl (fun ls hl => ?_)
          refine lv_iinc (v := zI ((fCnt cf pp k : Int) + 1 : Int)) (lv' := [(4, .int (zI ((fCnt cf pp k : Int) + 1 : Int))), (3, .int (zI (max (-1) (x : Int)))), (2, .int (zI (x : Int))), (6, .int (zI (x : Int))), (0, .ref mo), (1, .int (zI (b : Int))), (5, .int (zI ((pp : Int) + (k : Int))))]) hx hb dX4_follows_69 hl (k := 5) rfl ((zI_add _ _).trans (congrArg zI (by omega))) (by decide) rfl (fun ls hl => ?_)
          refine lv_iinc (v := zI (((pp : Int) + (k : Int)) + 1 : Int)) (lv' := [(5, .int (zI (((pp : Int) + (k : Int)) + 1 : Int))), (4, .int (zI ((fCnt cf pp k : Int) + 1 : Int))), (3, .int (zI (max (-1) (x : Int)))), (2, .int (zI (x : Int))), (6, .int (zI (x : Int))), (0, .ref mo), (1, .int (zI (b : Int)))]) hx hb dX4_follows_72 hl (k := 6) rfl ((zI_add _ _).trans (congrArg zI (by omega))) (by decide) rfl (fun ls hl => ?_)
          have hl : lv_has ls 7 [(5, .int (zI ((pp : Int) + ((k + 1 : Nat) : Int)))), (4, .int (zI (fCnt cf pp (k + 1) : Int))), (3, .int (zI (oI (fHigh cf pp (k + 1))))), (2, .int (zI (oI (fLow cf pp (k + 1))))), (6, .int (zI (x : Int))), (0, .ref mo), (1, .int (zI (b : Int)))] := by rw [(fL_0 hx9 ⟨q1, q2⟩).1, (fL_0 hx9 ⟨q1, q2⟩).2.1, (fL_0 hx9 ⟨q1, q2⟩).2.2]; simp only [oI_some]; rw [show (pp : Int) + ((k + 1 : Nat) : Int) = (pp : Int) + (k : Int) + 1 by omega, show (x : Int) = max (-1) (x : Int) by omega]; exact hl
          refine lv_goto (tgt := 13) hx hb dX4_follows_75 (by decide) ?_
          exact ihA (n - (k + 1)) (by omega) H locs ls ⟨(k + 1), ⟨by omega, rfl⟩, hG, (lv_sub hl [5, 6, 3, 2, 1, 0] rfl)⟩
      · have hl : lv_has ls 7 [(6, .int (zI (x : Int))), (0, .ref mo), (1, .int (zI (b : Int))), (2, .int (zI (y : Int))), (3, .int (zI (z : Int))), (4, .int (zI (fCnt cf pp k : Int))), (5, .int (zI ((pp : Int) + (k : Int))))] := by rw [q1, q2, oI_some, oI_some] at hl; exact hl
        refine lv_iload hx hb dX4_follows_45 (lv_at hl 5 rfl) ?_
        refine g_ne (tgt := 55) hx hb dX4_follows_47 (by decide) (by omega) (fun h3 => ?_) (fun h3 => ?_)
        · refine lv_iload_n hx hb dX4_follows_55 rfl (lv_at hl 3 rfl) ?_
          refine lv_iload hx hb dX4_follows_56 (lv_at hl 0 rfl) ?_
          refine g_min hx hb (hml.trans hl.1.symm) hts hown (hts _ q3631) ⟨Nat.le_of_ble_eq_true rfl, Nat.le_of_ble_eq_true rfl, Nat.le_of_ble_eq_true rfl, Nat.le_of_ble_eq_true rfl⟩ (by omega) dX4_follows_58 ?_
          refine lv_istore_n (lv' := [(2, .int (zI (min (y : Int) (x : Int)))), (6, .int (zI (x : Int))), (0, .ref mo), (1, .int (zI (b : Int))), (3, .int (zI (z : Int))), (4, .int (zI (fCnt cf pp k : Int))), (5, .int (zI ((pp : Int) + (k : Int))))]) hx hb dX4_follows_61 rfl hl (by decide) rfl (fun ls hl => ?_)
          refine lv_iload_n hx hb dX4_follows_62 rfl (lv_at hl 4 rfl) ?_
          refine lv_iload hx hb dX4_follows_63 (lv_at hl 1 rfl) ?_
          refine g_max hx hb (hml.trans hl.1.symm) hts hown (hts _ q3513) ⟨Nat.le_of_ble_eq_true rfl, Nat.le_of_ble_eq_true rfl, Nat.le_of_ble_eq_true rfl, Nat.le_of_ble_eq_true rfl⟩ (by omega) dX4_follows_65 ?_
          refine lv_istore_n (lv' := [(3, .int (zI (max (z : Int) (x : Int)))), (2, .int (zI (min (y : Int) (x : Int)))), (6, .int (zI (x : Int))), (0, .ref mo), (1, .int (zI (b : Int))), (4, .int (zI (fCnt cf pp k : Int))), (5, .int (zI ((pp : Int) + (k : Int))))]) hx hb dX4_follows_68 rfl hl (by decide) rfl (fun ls hl => ?_)
          refine lv_iinc (v := zI ((fCnt cf pp k : Int) + 1 : Int)) (lv' := [(4, .int (zI ((fCnt cf pp k : Int) + 1 : Int))), (3, .int (zI (max (z : Int) (x : Int)))), (2, .int (zI (min (y : Int) (x : Int)))), (6, .int (zI (x : Int))), (0, .ref mo), (1, .int (zI (b : Int))), (5, .int (zI ((pp : Int) + (k : Int))))]) hx hb dX4_follows_69 hl (k := 5) rfl ((zI_add _ _).trans (congrArg zI (by omega))) (by decide) rfl (fun ls hl => ?_)
          refine lv_iinc (v := zI (((pp : Int) + (k : Int)) + 1 : Int)) (lv' := [(5, .int (zI (((pp : Int) + (k : Int)) + 1 : Int))), (4, .int (zI ((fCnt cf pp k : Int) + 1 : Int))), (3, .int (zI (max (z : Int) (x : Int)))), (2, .int (zI (min (y : Int) (x : Int)))), (6, .int (zI (x : Int))), (0, .ref mo), (1, .int (zI (b : Int)))]) hx hb dX4_follows_72 hl (k := 6) rfl ((zI_add _ _).trans (congrArg zI (by omega))) (by decide) rfl (fun ls hl => ?_)
          have hl : lv_has ls 7 [(5, .int (zI ((pp : Int) + ((k + 1 : Nat) : Int)))), (4, .int (zI (fCnt cf pp (k + 1) : Int))), (3, .int (zI (oI (fHigh cf pp (k + 1))))), (2, .int (zI (oI (fLow cf pp (k + 1))))), (6, .int (zI (x : Int))), (0, .ref mo), (1, .int (zI (b : Int)))] := by rw [(fL_1 hx9 ⟨q1, q2⟩).1, (fL_1 hx9 ⟨q1, q2⟩).2.1, (fL_1 hx9 ⟨q1, q2⟩).2.2]; simp only [oI_some]; rw [show (pp : Int) + ((k + 1 : Nat) : Int) = (pp : Int) + (k : Int) + 1 by omega, show ((min y x : Nat) : Int) = min (y : Int) (x : Int) by omega, show ((max z x : Nat) : Int) = max (z : Int) (x : Int) by omega]; exact hl
          refine lv_goto (tgt := 13) hx hb dX4_follows_75 (by decide) ?_
          exact ihA (n - (k + 1)) (by omega) H locs ls ⟨(k + 1), ⟨by omega, rfl⟩, hG, (lv_sub hl [5, 6, 3, 2, 1, 0] rfl)⟩
        · exfalso; omega
    · obtain ⟨e1, e2, e3⟩ := fL_n (oI_m1.mp h2)
      refine lv_goto (tgt := 72) hx hb dX4_follows_42 (by decide) ?_
      refine lv_iinc (v := zI (((pp : Int) + (k : Int)) + 1 : Int)) (lv' := [(5, .int (zI (((pp : Int) + (k : Int)) + 1 : Int))), (6, .int (zI (oI (cf (pp + k))))), (0, .ref mo), (1, .int (zI (b : Int))), (2, .int (zI (oI (fLow cf pp k)))), (3, .int (zI (oI (fHigh cf pp k)))), (4, .int (zI (fCnt cf pp k : Int)))]) hx hb dX4_follows_72 hl (k := 6) rfl ((zI_add _ _).trans (congrArg zI (by omega))) (by decide) rfl (fun ls hl => ?_)
      have hl : lv_has ls 7 [(5, .int (zI ((pp : Int) + ((k + 1 : Nat) : Int)))), (6, .int (zI (oI (cf (pp + k))))), (0, .ref mo), (1, .int (zI (b : Int))), (2, .int (zI (oI (fLow cf pp (k + 1))))), (3, .int (zI (oI (fHigh cf pp (k + 1))))), (4, .int (zI (fCnt cf pp (k + 1) : Int)))] := by rw [e1, e2, e3, show (pp : Int) + ((k + 1 : Nat) : Int) = (pp : Int) + (k : Int) + 1 by omega]; exact hl
      refine lv_goto (tgt := 13) hx hb dX4_follows_75 (by decide) ?_
      exact ihA (n - (k + 1)) (by omega) H locs ls ⟨(k + 1), ⟨by omega, rfl⟩, hG, (lv_sub hl [2, 3, 4, 5, 6, 0] rfl)⟩

set_option maxHeartbeats 4000000 in
theorem metX4_followsAsPoint {l : Launch} {X : gX} {mo : Nat} {ad : Nat → Nat} {S : mS} {b pp : Nat} {z : Int} {r : Option Nat} {cf : Nat → Option Nat} (hb9 : b < 16) (hc : ∀ i, i < 24 → S.2.1 4 (24 * b + i) = oI (cf i)) (hc24 : ∀ i x, cf i = some x → x < 1000) (hpq : S.1 31 = (pp : Nat) ∧ pp < 24) (hz : z = 0 ∨ z = 1) (hrr : r = if z = 0 then cf pp else upC cf pp) (hr9 : ∀ x, r = some x → x < 1000) : Met l yX4_followsAsPoint (ws_ yX4_followsAsPoint cX4_followsAsPoint 4 (some FieldType.boolean)) ({ frames := 0, cells := 0, slots := 0, locals := 0 }) (mP X mo ad S [.ref mo, .int (zI (b : Int)), .int (zI z)]) (mQi X mo ad (fun u T => ∃ b : Int, u = zI b ∧ ((b = 1 ∧ r ≠ none) ∨ (b = 0 ∧ r = none)) ∧ sI (sI S 31 (oI r)) 32 (oI r) = T)) 0 0 (mA mo ad) := by
  refine Met.m (by decide) (Nat.le_of_ble_eq_true rfl) ?_
  intro p e s m below meth c ls hx hb hr hts hown hlocks hml hG hl
  have hl : lv_has ls 4 [(0, .ref mo), (1, .int (zI (b : Int))), (2, .int (zI z))] := hl
  refine lv_aload_n hx hb dX4_followsAsPoint_0 rfl (lv_at hl 0 rfl) ?_
  refine m_get 31 (by decide) (v := .int (zI (pp : Int))) (congrArg (fun z => Value.int (zI z)) (show S.1 31 = (pp : Int) from hpq.1)) hx hb hts hown hG (hts _ q3327) dX4_followsAsPoint_1 ?_
  refine lv_istore_n (lv' := [(3, .int (zI (pp : Int))), (0, .ref mo), (1, .int (zI (b : Int))), (2, .int (zI z))]) hx hb dX4_followsAsPoint_4 rfl hl (by decide) rfl (fun ls hl => ?_)
  rcases hz with rfl | rfl
  · refine lv_iload_n hx hb dX4_followsAsPoint_5 rfl (lv_at hl 3 rfl) ?_
    refine g_eq (tgt := 34) hx hb dX4_followsAsPoint_6 (by decide) (by decide) (fun h1 => ?_) (fun h1 => ?_)
    · refine lv_aload_n hx hb dX4_followsAsPoint_34 rfl (lv_at hl 1 rfl) ?_
      refine lv_aload_n hx hb dX4_followsAsPoint_35 rfl (lv_at hl 1 rfl) ?_
      refine m_get 4 (by decide) (v := .ref (ad 4)) rfl hx hb hts hown hG (hts _ q3300) dX4_followsAsPoint_36 ?_
      refine lv_bipush (v := zI 24) hx hb dX4_followsAsPoint_39 (by decide +kernel) ?_
      refine lv_iload_n hx hb dX4_followsAsPoint_41 rfl (lv_at hl 2 rfl) ?_
      refine g_imul hx hb dX4_followsAsPoint_42 ?_
      refine lv_iload_n hx hb dX4_followsAsPoint_43 rfl (lv_at hl 0 rfl) ?_
      refine g_iadd hx hb dX4_followsAsPoint_44 ?_
      refine m_iald 4 rfl rfl (by decide) (24 * b + pp) (v := (oI r)) ⟨by omega, by show _ < 384; omega⟩ (show S.2.1 4 (24 * b + pp) = (oI r) from ((hc _ (by omega)).trans (congrArg oI ((if_pos rfl).symm.trans hrr.symm)))) hx hb hG dX4_followsAsPoint_45 ?_
      refine m_put 31 (by decide) rfl rfl (tyX4_ok 31 (by decide)) rfl rfl hx hb hts hown hG (hts _ q3327) dX4_followsAsPoint_46 (fun H locs (hG : mW X mo ad (sI S 31 (oI r)) s H locs) => ?_)
      refine lv_aload_n hx hb dX4_followsAsPoint_49 rfl (lv_at hl 1 rfl) ?_
      refine lv_aload_n hx hb dX4_followsAsPoint_50 rfl (lv_at hl 1 rfl) ?_
      refine m_get 31 (by decide) (v := .int (zI (oI r))) rfl hx hb hts hown hG (hts _ q3327) dX4_followsAsPoint_51 ?_
      refine m_put 32 (by decide) rfl rfl (tyX4_ok 32 (by decide)) rfl rfl hx hb hts hown hG (hts _ q3328) dX4_followsAsPoint_54 (fun H locs (hG : mW X mo ad (sI (sI S 31 (oI r)) 32 (oI r)) s H locs) => ?_)
      refine lv_aload_n hx hb dX4_followsAsPoint_57 rfl (lv_at hl 1 rfl) ?_
      refine m_get 31 (by decide) (v := .int (zI (oI r))) rfl hx hb hts hown hG (hts _ q3327) dX4_followsAsPoint_58 ?_
      refine lv_iconst (v := zI (-1)) hx hb dX4_followsAsPoint_61 (by decide +kernel) ?_
      refine g_ceq (tgt := 69) hx hb dX4_followsAsPoint_62 (by decide) (by have q := oI_R r hr9; omega) (fun h9 => ?_) (fun h9 => ?_)
      · refine lv_iconst (v := zI 0) hx hb dX4_followsAsPoint_69 (by decide +kernel) ?_
        exact m_zret hx hb hr hlocks rfl hG (⟨0, rfl, Or.inr ⟨rfl, oI_m1.mp h9⟩, rfl⟩) ⟨Nat.le_of_ble_eq_true rfl, Nat.le_of_ble_eq_true rfl⟩ dX4_followsAsPoint_70
      · refine lv_iconst (v := zI 1) hx hb dX4_followsAsPoint_65 (by decide +kernel) ?_
        refine lv_goto (tgt := 70) hx hb dX4_followsAsPoint_66 (by decide) ?_
        exact m_zret hx hb hr hlocks rfl hG (⟨1, rfl, Or.inl ⟨rfl, fun q => h9 (oI_m1.mpr q)⟩, rfl⟩) ⟨Nat.le_of_ble_eq_true rfl, Nat.le_of_ble_eq_true rfl⟩ dX4_followsAsPoint_70
    · exfalso; omega
  · have hrr : r = upC cf pp := hrr.trans (if_neg (by decide))
    have hl : lv_has ls 4 [(3, .int (zI ((pp : Nat) : Int))), (0, .ref mo), (1, .int (zI (b : Int))), (2, .int (zI 1))] := by exact hl
    refine g_loop (fun mz H locs ls => ∃ (i : Nat), (i ≤ pp ∧ mz = i ∧ r = upC cf i) ∧ mW X mo ad S s H locs ∧ lv_has ls 4 [(0, .ref mo), (1, .int (zI (b : Int))), (2, .int (zI 1)), (3, .int (zI (i : Int)))]) pp ⟨pp, ⟨Nat.le_refl _, rfl, hrr⟩, hG, (lv_sub hl [1, 2, 3, 0] rfl)⟩ (fun mz ihA H locs ls hI => ?_)
    obtain ⟨i, ⟨hi, hmz, hup⟩, hG, hl⟩ := hI
    refine lv_iload_n hx hb dX4_followsAsPoint_5 rfl (lv_at hl 2 rfl) ?_
    refine g_eq (tgt := 34) hx hb dX4_followsAsPoint_6 (by decide) (by decide) (fun h1 => ?_) (fun h1 => ?_)
    · exfalso; omega
    · refine lv_iload_n hx hb dX4_followsAsPoint_9 rfl (lv_at hl 3 rfl) ?_
      refine g_le (tgt := 34) hx hb dX4_followsAsPoint_10 (by decide) (by omega) (fun h2 => ?_) (fun h2 => ?_)
      · have hi0 : i = 0 := by omega
        subst hi0
        have hl : lv_has ls 4 [(0, .ref mo), (1, .int (zI (b : Int))), (2, .int (zI 1)), (3, .int (zI ((0 : Nat) : Int)))] := by exact hl
        refine lv_aload_n hx hb dX4_followsAsPoint_34 rfl (lv_at hl 0 rfl) ?_
        refine lv_aload_n hx hb dX4_followsAsPoint_35 rfl (lv_at hl 0 rfl) ?_
        refine m_get 4 (by decide) (v := .ref (ad 4)) rfl hx hb hts hown hG (hts _ q3300) dX4_followsAsPoint_36 ?_
        refine lv_bipush (v := zI 24) hx hb dX4_followsAsPoint_39 (by decide +kernel) ?_
        refine lv_iload_n hx hb dX4_followsAsPoint_41 rfl (lv_at hl 1 rfl) ?_
        refine g_imul hx hb dX4_followsAsPoint_42 ?_
        refine lv_iload_n hx hb dX4_followsAsPoint_43 rfl (lv_at hl 3 rfl) ?_
        refine g_iadd hx hb dX4_followsAsPoint_44 ?_
        refine m_iald 4 rfl rfl (by decide) (24 * b + 0) (v := (oI r)) ⟨by omega, by show _ < 384; omega⟩ (show S.2.1 4 (24 * b + 0) = (oI r) from ((hc _ (by omega)).trans (congrArg oI (hup.symm)))) hx hb hG dX4_followsAsPoint_45 ?_
        refine m_put 31 (by decide) rfl rfl (tyX4_ok 31 (by decide)) rfl rfl hx hb hts hown hG (hts _ q3327) dX4_followsAsPoint_46 (fun H locs (hG : mW X mo ad (sI S 31 (oI r)) s H locs) => ?_)
        refine lv_aload_n hx hb dX4_followsAsPoint_49 rfl (lv_at hl 0 rfl) ?_
        refine lv_aload_n hx hb dX4_followsAsPoint_50 rfl (lv_at hl 0 rfl) ?_
        refine m_get 31 (by decide) (v := .int (zI (oI r))) rfl hx hb hts hown hG (hts _ q3327) dX4_followsAsPoint_51 ?_
        refine m_put 32 (by decide) rfl rfl (tyX4_ok 32 (by decide)) rfl rfl hx hb hts hown hG (hts _ q3328) dX4_followsAsPoint_54 (fun H locs (hG : mW X mo ad (sI (sI S 31 (oI r)) 32 (oI r)) s H locs) => ?_)
        refine lv_aload_n hx hb dX4_followsAsPoint_57 rfl (lv_at hl 0 rfl) ?_
        refine m_get 31 (by decide) (v := .int (zI (oI r))) rfl hx hb hts hown hG (hts _ q3327) dX4_followsAsPoint_58 ?_
        refine lv_iconst (v := zI (-1)) hx hb dX4_followsAsPoint_61 (by decide +kernel) ?_
        refine g_ceq (tgt := 69) hx hb dX4_followsAsPoint_62 (by decide) (by have q := oI_R r hr9; omega) (fun h9 => ?_) (fun h9 => ?_)
        · refine lv_iconst (v := zI 0) hx hb dX4_followsAsPoint_69 (by decide +kernel) ?_
          exact m_zret hx hb hr hlocks rfl hG (⟨0, rfl, Or.inr ⟨rfl, oI_m1.mp h9⟩, rfl⟩) ⟨Nat.le_of_ble_eq_true rfl, Nat.le_of_ble_eq_true rfl⟩ dX4_followsAsPoint_70
        · refine lv_iconst (v := zI 1) hx hb dX4_followsAsPoint_65 (by decide +kernel) ?_
          refine lv_goto (tgt := 70) hx hb dX4_followsAsPoint_66 (by decide) ?_
          exact m_zret hx hb hr hlocks rfl hG (⟨1, rfl, Or.inl ⟨rfl, fun q => h9 (oI_m1.mpr q)⟩, rfl⟩) ⟨Nat.le_of_ble_eq_true rfl, Nat.le_of_ble_eq_true rfl⟩ dX4_followsAsPoint_70
      · refine lv_aload_n hx hb dX4_followsAsPoint_13 rfl (lv_at hl 0 rfl) ?_
        refine m_get 4 (by decide) (v := .ref (ad 4)) rfl hx hb hts hown hG (hts _ q3300) dX4_followsAsPoint_14 ?_
        refine lv_bipush (v := zI 24) hx hb dX4_followsAsPoint_17 (by decide +kernel) ?_
        refine lv_iload_n hx hb dX4_followsAsPoint_19 rfl (lv_at hl 1 rfl) ?_
        refine g_imul hx hb dX4_followsAsPoint_20 ?_
        refine lv_iload_n hx hb dX4_followsAsPoint_21 rfl (lv_at hl 3 rfl) ?_
        refine g_iadd hx hb dX4_followsAsPoint_22 ?_
        refine m_iald 4 rfl rfl (by decide) (24 * b + i) (v := (oI (cf i))) ⟨by omega, by show _ < 384; omega⟩ (show S.2.1 4 (24 * b + i) = (oI (cf i)) from (hc _ (by omega))) hx hb hG dX4_followsAsPoint_23 ?_
        refine lv_iconst (v := zI (-1)) hx hb dX4_followsAsPoint_24 (by decide +kernel) ?_
        refine g_cne (tgt := 34) hx hb dX4_followsAsPoint_25 (by decide) (by have q := oI_R (cf i) (fun x hx => hc24 _ x hx); omega) (fun h3 => ?_) (fun h3 => ?_)
        · obtain ⟨x, hx9⟩ : ∃ z9, cf i = some z9 := by cases hq : cf i with
      | none => exact absurd (oI_m1.mpr hq) (by omega)
      | some z => exact ⟨z, rfl⟩
          refine lv_aload_n hx hb dX4_followsAsPoint_34 rfl (lv_at hl 0 rfl) ?_
          refine lv_aload_n hx hb dX4_followsAsPoint_35 rfl (lv_at hl 0 rfl) ?_
          refine m_get 4 (by decide) (v := .ref (ad 4)) rfl hx hb hts hown hG (hts _ q3300) dX4_followsAsPoint_36 ?_
          refine lv_bipush (v := zI 24) hx hb dX4_followsAsPoint_39 (by decide +kernel) ?_
          refine lv_iload_n hx hb dX4_followsAsPoint_41 rfl (lv_at hl 1 rfl) ?_
          refine g_imul hx hb dX4_followsAsPoint_42 ?_
          refine lv_iload_n hx hb dX4_followsAsPoint_43 rfl (lv_at hl 3 rfl) ?_
          refine g_iadd hx hb dX4_followsAsPoint_44 ?_
          refine m_iald 4 rfl rfl (by decide) (24 * b + i) (v := (oI r)) ⟨by omega, by show _ < 384; omega⟩ (show S.2.1 4 (24 * b + i) = (oI r) from ((hc _ (by omega)).trans (congrArg oI (hx9.trans (hup.trans (upC_s hx9)).symm)))) hx hb hG dX4_followsAsPoint_45 ?_
          refine m_put 31 (by decide) rfl rfl (tyX4_ok 31 (by decide)) rfl rfl hx hb hts hown hG (hts _ q3327) dX4_followsAsPoint_46 (fun H locs (hG : mW X mo ad (sI S 31 (oI r)) s H locs) => ?_)
          refine lv_aload_n hx hb dX4_followsAsPoint_49 rfl (lv_at hl 0 rfl) ?_
          refine lv_aload_n hx hb dX4_followsAsPoint_50 rfl (lv_at hl 0 rfl) ?_
          refine m_get 31 (by decide) (v := .int (zI (oI r))) rfl hx hb hts hown hG (hts _ q3327) dX4_followsAsPoint_51 ?_
          refine m_put 32 (by decide) rfl rfl (tyX4_ok 32 (by decide)) rfl rfl hx hb hts hown hG (hts _ q3328) dX4_followsAsPoint_54 (fun H locs (hG : mW X mo ad (sI (sI S 31 (oI r)) 32 (oI r)) s H locs) => ?_)
          refine lv_aload_n hx hb dX4_followsAsPoint_57 rfl (lv_at hl 0 rfl) ?_
          refine m_get 31 (by decide) (v := .int (zI (oI r))) rfl hx hb hts hown hG (hts _ q3327) dX4_followsAsPoint_58 ?_
          refine lv_iconst (v := zI (-1)) hx hb dX4_followsAsPoint_61 (by decide +kernel) ?_
          refine g_ceq (tgt := 69) hx hb dX4_followsAsPoint_62 (by decide) (by have q := oI_R r hr9; omega) (fun h9 => ?_) (fun h9 => ?_)
          · refine lv_iconst (v := zI 0) hx hb dX4_followsAsPoint_69 (by decide +kernel) ?_
            exact m_zret hx hb hr hlocks rfl hG (⟨0, rfl, Or.inr ⟨rfl, oI_m1.mp h9⟩, rfl⟩) ⟨Nat.le_of_ble_eq_true rfl, Nat.le_of_ble_eq_true rfl⟩ dX4_followsAsPoint_70
          · refine lv_iconst (v := zI 1) hx hb dX4_followsAsPoint_65 (by decide +kernel) ?_
            refine lv_goto (tgt := 70) hx hb dX4_followsAsPoint_66 (by decide) ?_
            exact m_zret hx hb hr hlocks rfl hG (⟨1, rfl, Or.inl ⟨rfl, fun q => h9 (oI_m1.mpr q)⟩, rfl⟩) ⟨Nat.le_of_ble_eq_true rfl, Nat.le_of_ble_eq_true rfl⟩ dX4_followsAsPoint_70
        · obtain ⟨j, rfl⟩ : ∃ j, i = j + 1 := ⟨i - 1, by omega⟩
          have hl : lv_has ls 4 [(0, .ref mo), (1, .int (zI (b : Int))), (2, .int (zI 1)), (3, .int (zI ((j + 1 : Nat) : Int)))] := by exact hl
          refine lv_iinc (v := zI (((j + 1 : Nat) : Int) - 1 : Int)) (lv' := [(3, .int (zI (((j + 1 : Nat) : Int) - 1 : Int))), (0, .ref mo), (1, .int (zI (b : Int))), (2, .int (zI 1))]) hx hb dX4_followsAsPoint_28 hl (k := 3) rfl ((zI_add _ _).trans (congrArg zI (by omega))) (by decide) rfl (fun ls hl => ?_)
          have hl : lv_has ls 4 [(3, .int (zI (j : Int))), (0, .ref mo), (1, .int (zI (b : Int))), (2, .int (zI 1))] := by rw [show (j : Int) = ((j + 1 : Nat) : Int) - 1 by omega]; exact hl
          refine lv_goto (tgt := 5) hx hb dX4_followsAsPoint_31 (by decide) ?_
          exact ihA j (by omega) H locs ls ⟨j, ⟨by omega, rfl, by rw [hup]; exact upC_n (oI_m1.mp h3)⟩, hG, (lv_sub hl [1, 2, 3, 0] rfl)⟩

set_option maxHeartbeats 4000000 in
theorem metX4_goesTo {l : Launch} {X : gX} {mo : Nat} {ad : Nat → Nat} {S : mS} {b pp qq kd a nb : Nat} {cf : Nat → Option Nat} (hb9 : b < 16) (hc : ∀ i, i < 24 → S.2.1 4 (24 * b + i) = oI (cf i)) (hcb : ∀ i x, cf i = some x → x < nb) (hnb : S.2.1 2 b = (nb : Nat) ∧ nb ≤ 24) (hpq : S.1 31 = (pp : Nat) ∧ S.1 32 = (qq : Nat) ∧ pp ≤ qq ∧ qq < 24) (hkd : kd ≤ 6 ∧ a ≤ 9) : Met l yX4_goesTo (ws_ yX4_goesTo cX4_goesTo 6 (some FieldType.boolean)) ({ frames := 2, cells := 0, slots := 0, locals := 47 }) (mP X mo ad S [.ref mo, .int (zI (kd : Int)), .int (zI (a : Int)), .int (zI (b : Int))]) (mQi X mo ad (fun u T => ∃ b : Int, u = zI b ∧ ((b = 1 ∧ ∃ x y : Nat, goesK cf nb kd a pp qq = some (x, y) ∧ T.1 31 = (x : Nat) ∧ T.1 32 = (y : Nat)) ∨ (b = 0 ∧ goesK cf nb kd a pp qq = none)) ∧ mSc2 S T)) 0 0 (mA mo ad) := by
  refine Met.m (by decide) (Nat.le_of_ble_eq_true rfl) ?_
  intro p e s m below meth c ls hx hb hr hts hown hlocks hml hG hl
  have hl : lv_has ls 6 [(0, .ref mo), (1, .int (zI (kd : Int))), (2, .int (zI (a : Int))), (3, .int (zI (b : Int)))] := hl
  refine lv_aload_n hx hb dX4_goesTo_0 rfl (lv_at hl 0 rfl) ?_
  refine m_get 32 (by decide) (v := .int (zI (qq : Int))) (congrArg (fun z => Value.int (zI z)) (show S.1 32 = (qq : Int) from hpq.2.1)) hx hb hts hown hG (hts _ q3328) dX4_goesTo_1 ?_
  refine lv_aload_n hx hb dX4_goesTo_4 rfl (lv_at hl 0 rfl) ?_
  refine m_get 31 (by decide) (v := .int (zI (pp : Int))) (congrArg (fun z => Value.int (zI z)) (show S.1 31 = (pp : Int) from hpq.1)) hx hb hts hown hG (hts _ q3327) dX4_goesTo_5 ?_
  refine g_isub hx hb dX4_goesTo_8 ?_
  refine lv_iconst (v := zI 1) hx hb dX4_goesTo_9 (by decide +kernel) ?_
  refine g_iadd hx hb dX4_goesTo_10 ?_
  refine lv_istore (lv' := [(4, .int (zI (((qq : Int) - (pp : Int)) + 1))), (0, .ref mo), (1, .int (zI (kd : Int))), (2, .int (zI (a : Int))), (3, .int (zI (b : Int)))]) hx hb dX4_goesTo_11 hl (by decide) rfl (fun ls hl => ?_)
  refine lv_iload_n hx hb dX4_goesTo_13 rfl (lv_at hl 2 rfl) ?_
  rcases (show (kd : Int) = 0 ∨ (kd : Int) = 1 ∨ (kd : Int) = 2 ∨ (kd : Int) = 3 ∨ (kd : Int) = 4 ∨ (kd : Int) = 5 ∨ (kd : Int) = 6 by omega) with hk | hk | hk | hk | hk | hk | hk
  · refine g_look hx hb 0 (off := 73) (tgt := 87) dX4_goesTo_14 hk (by decide) rfl rfl (by decide) ?_
    refine lv_aload_n hx hb dX4_goesTo_87 rfl (lv_at hl 1 rfl) ?_
    refine lv_iload_n hx hb dX4_goesTo_88 rfl (lv_at hl 4 rfl) ?_
    refine m_ci (va_runV (As := [.int (zI (b : Int))]) (rest := []) ⟨hx, hb, hml, hown, hts⟩ (metX4_follows (cf := cf) (pp := pp) (n := qq - pp + 1) hb9 hc (fun i x hx => by have := hcb i x hx; omega) ⟨hpq.1, by omega, by omega⟩) (cwV 1 hts (lw_V q3627 q3629 qs71 q102 q3630) rfl rfl rfl (by decide +kernel) ⟨Nat.le_of_ble_eq_true rfl, Nat.le_of_ble_eq_true rfl⟩) (m_preV hG) rfl rfl hl.1 rfl (lv_room (Nat.le_of_ble_eq_true rfl)) dX4_goesTo_89 ⟨Nat.le_of_ble_eq_true rfl, Nat.le_of_ble_eq_true rfl⟩) hG (fun r_1 S_2 H locs hp hG => ?_)
    obtain ⟨rfl, rfl⟩ := hp
    have hG : mW X mo ad (sI (sI S 31 (oI (fLow cf pp (qq - pp + 1)))) 32 (oI (fHigh cf pp (qq - pp + 1)))) s H locs := hG
    obtain ⟨hcl, hcs⟩ := fL_cases hcb pp (qq - pp + 1)
    rcases hcs with ⟨q1, q2, q3⟩ | ⟨y, z, q1, q2, q3, q4, q5⟩
    · refine lv_istore (lv' := [(5, .int (zI (fCnt cf pp (qq - pp + 1) : Int))), (4, .int (zI (((qq : Int) - (pp : Int)) + 1))), (0, .ref mo), (1, .int (zI (kd : Int))), (2, .int (zI (a : Int))), (3, .int (zI (b : Int)))]) hx hb dX4_goesTo_92 hl (by decide) rfl (fun ls hl => ?_)
      refine lv_iload hx hb dX4_goesTo_94 (lv_at hl 0 rfl) ?_
      refine g_ne (tgt := 101) hx hb dX4_goesTo_96 (by decide) (by omega) (fun h2 => ?_) (fun h2 => ?_)
      · exfalso; omega
      · refine lv_iconst (v := zI 0) hx hb dX4_goesTo_99 (by decide +kernel) ?_
        exact m_zret hx hb hr hlocks rfl hG (⟨0, rfl, Or.inr ⟨rfl, by unfold goesK; (repeat (first | rw [if_pos (by omega)] | rw [if_neg (by omega)])); rw [fSpan_n q1]⟩, mSc2.mk⟩) ⟨Nat.le_of_ble_eq_true rfl, Nat.le_of_ble_eq_true rfl⟩ dX4_goesTo_100
    · refine lv_istore (lv' := [(5, .int (zI (fCnt cf pp (qq - pp + 1) : Int))), (4, .int (zI (((qq : Int) - (pp : Int)) + 1))), (0, .ref mo), (1, .int (zI (kd : Int))), (2, .int (zI (a : Int))), (3, .int (zI (b : Int)))]) hx hb dX4_goesTo_92 hl (by decide) rfl (fun ls hl => ?_)
      refine lv_iload hx hb dX4_goesTo_94 (lv_at hl 0 rfl) ?_
      refine g_ne (tgt := 101) hx hb dX4_goesTo_96 (by decide) (by omega) (fun h2 => ?_) (fun h2 => ?_)
      · refine lv_iload_n hx hb dX4_goesTo_101 rfl (lv_at hl 3 rfl) ?_
        refine lv_iconst (v := zI 4) hx hb dX4_goesTo_102 (by decide +kernel) ?_
        refine g_cne (tgt := 124) hx hb dX4_goesTo_103 (by decide) (by omega) (fun h1 => ?_) (fun h1 => ?_)
        · refine lv_iload_n hx hb dX4_goesTo_124 rfl (lv_at hl 3 rfl) ?_
          refine lv_iconst (v := zI 2) hx hb dX4_goesTo_125 (by decide +kernel) ?_
          refine g_ceq (tgt := 134) hx hb dX4_goesTo_126 (by decide) (by omega) (fun h2 => ?_) (fun h2 => ?_)
          · refine lv_iload hx hb dX4_goesTo_134 (lv_at hl 0 rfl) ?_
            refine lv_iload hx hb dX4_goesTo_136 (lv_at hl 1 rfl) ?_
            refine g_cne (tgt := 173) hx hb dX4_goesTo_138 (by decide) (by omega) (fun h3 => ?_) (fun h3 => ?_)
            · refine lv_iconst (v := zI 0) hx hb dX4_goesTo_173 (by decide +kernel) ?_
              exact m_zret hx hb hr hlocks rfl hG (by first | (exfalso; omega) | exact ⟨0, rfl, Or.inr ⟨rfl, by unfold goesK; rw [fSpan_s q1 q2]; dsimp only; (repeat (first | rw [if_pos (by omega)] | rw [if_neg (by omega)]))⟩, mSc2.mk⟩) ⟨Nat.le_of_ble_eq_true rfl, Nat.le_of_ble_eq_true rfl⟩ dX4_goesTo_174
            · refine lv_aload_n hx hb dX4_goesTo_141 rfl (lv_at hl 2 rfl) ?_
              refine m_get 32 (by decide) (v := .int (zI (z : Int))) (congrArg (fun z => Value.int (zI z)) (show (sI (sI S 31 (oI (fLow cf pp (qq - pp + 1)))) 32 (oI (fHigh cf pp (qq - pp + 1)))).1 32 = (z : Int) from (by rw [sI_s, q2]; rfl))) hx hb hts hown hG (hts _ q3328) dX4_goesTo_142 ?_
              refine lv_aload_n hx hb dX4_goesTo_145 rfl (lv_at hl 2 rfl) ?_
              refine m_get 31 (by decide) (v := .int (zI (y : Int))) (congrArg (fun z => Value.int (zI z)) (show (sI (sI S 31 (oI (fLow cf pp (qq - pp + 1)))) 32 (oI (fHigh cf pp (qq - pp + 1)))).1 31 = (y : Int) from (by rw [sI_n (by decide), sI_s, q1]; rfl))) hx hb hts hown hG (hts _ q3327) dX4_goesTo_146 ?_
              refine g_isub hx hb dX4_goesTo_149 ?_
              refine lv_iconst (v := zI 1) hx hb dX4_goesTo_150 (by decide +kernel) ?_
              refine g_iadd hx hb dX4_goesTo_151 ?_
              refine lv_iload_n hx hb dX4_goesTo_152 rfl (lv_at hl 3 rfl) ?_
              refine lv_iconst (v := zI 5) hx hb dX4_goesTo_153 (by decide +kernel) ?_
              refine g_cne (tgt := 164) hx hb dX4_goesTo_154 (by decide) (by omega) (fun h4 => ?_) (fun h4 => ?_)
              · refine lv_iload hx hb dX4_goesTo_164 (lv_at hl 1 rfl) ?_
                refine g_cgt (tgt := 173) hx hb dX4_goesTo_166 (by decide) (by omega) (fun h5 => ?_) (fun h5 => ?_)
                · refine lv_iconst (v := zI 0) hx hb dX4_goesTo_173 (by decide +kernel) ?_
                  exact m_zret hx hb hr hlocks rfl hG (by first | (exfalso; omega) | exact ⟨0, rfl, Or.inr ⟨rfl, by unfold goesK; rw [fSpan_s q1 q2]; dsimp only; (repeat (first | rw [if_pos (by omega)] | rw [if_neg (by omega)]))⟩, mSc2.mk⟩) ⟨Nat.le_of_ble_eq_true rfl, Nat.le_of_ble_eq_true rfl⟩ dX4_goesTo_174
                · refine lv_iconst (v := zI 1) hx hb dX4_goesTo_169 (by decide +kernel) ?_
                  refine lv_goto (tgt := 174) hx hb dX4_goesTo_170 (by decide) ?_
                  exact m_zret hx hb hr hlocks rfl hG (by first | (exfalso; omega) | exact ⟨1, rfl, Or.inl ⟨rfl, y, z, by unfold goesK; rw [fSpan_s q1 q2]; dsimp only; (repeat (first | rw [if_pos (by omega)] | rw [if_neg (by omega)])), by rw [sI_n (by decide), sI_s, q1]; rfl, by rw [sI_s, q2]; rfl⟩, mSc2.mk⟩) ⟨Nat.le_of_ble_eq_true rfl, Nat.le_of_ble_eq_true rfl⟩ dX4_goesTo_174
              · refine lv_iload hx hb dX4_goesTo_157 (lv_at hl 1 rfl) ?_
                refine lv_iload_n hx hb dX4_goesTo_159 rfl (lv_at hl 4 rfl) ?_
                refine g_iadd hx hb dX4_goesTo_160 ?_
                refine lv_goto (tgt := 166) hx hb dX4_goesTo_161 (by decide) ?_
                refine g_cgt (tgt := 173) hx hb dX4_goesTo_166 (by decide) (by omega) (fun h6 => ?_) (fun h6 => ?_)
                · refine lv_iconst (v := zI 0) hx hb dX4_goesTo_173 (by decide +kernel) ?_
                  exact m_zret hx hb hr hlocks rfl hG (by first | (exfalso; omega) | exact ⟨0, rfl, Or.inr ⟨rfl, by unfold goesK; rw [fSpan_s q1 q2]; dsimp only; (repeat (first | rw [if_pos (by omega)] | rw [if_neg (by omega)]))⟩, mSc2.mk⟩) ⟨Nat.le_of_ble_eq_true rfl, Nat.le_of_ble_eq_true rfl⟩ dX4_goesTo_174
                · refine lv_iconst (v := zI 1) hx hb dX4_goesTo_169 (by decide +kernel) ?_
                  refine lv_goto (tgt := 174) hx hb dX4_goesTo_170 (by decide) ?_
                  exact m_zret hx hb hr hlocks rfl hG (by first | (exfalso; omega) | exact ⟨1, rfl, Or.inl ⟨rfl, y, z, by unfold goesK; rw [fSpan_s q1 q2]; dsimp only; (repeat (first | rw [if_pos (by omega)] | rw [if_neg (by omega)])), by rw [sI_n (by decide), sI_s, q1]; rfl, by rw [sI_s, q2]; rfl⟩, mSc2.mk⟩) ⟨Nat.le_of_ble_eq_true rfl, Nat.le_of_ble_eq_true rfl⟩ dX4_goesTo_174
          · refine lv_iload_n hx hb dX4_goesTo_129 rfl (lv_at hl 3 rfl) ?_
            refine lv_iconst (v := zI 5) hx hb dX4_goesTo_130 (by decide +kernel) ?_
            refine g_cne (tgt := 175) hx hb dX4_goesTo_131 (by decide) (by omega) (fun h7 => ?_) (fun h7 => ?_)
            · refine lv_iconst (v := zI 1) hx hb dX4_goesTo_175 (by decide +kernel) ?_
              exact m_zret hx hb hr hlocks rfl hG (by first | (exfalso; omega) | exact ⟨1, rfl, Or.inl ⟨rfl, y, z, by unfold goesK; rw [fSpan_s q1 q2]; dsimp only; (repeat (first | rw [if_pos (by omega)] | rw [if_neg (by omega)])), by rw [sI_n (by decide), sI_s, q1]; rfl, by rw [sI_s, q2]; rfl⟩, mSc2.mk⟩) ⟨Nat.le_of_ble_eq_true rfl, Nat.le_of_ble_eq_true rfl⟩ dX4_goesTo_176
            · refine lv_iload hx hb dX4_goesTo_134 (lv_at hl 0 rfl) ?_
              refine lv_iload hx hb dX4_goesTo_136 (lv_at hl 1 rfl) ?_
              refine g_cne (tgt := 173) hx hb dX4_goesTo_138 (by decide) (by omega) (fun h8 => ?_) (fun h8 => ?_)
              · refine lv_iconst (v := zI 0) hx hb dX4_goesTo_173 (by decide +kernel) ?_
                exact m_zret hx hb hr hlocks rfl hG (by first | (exfalso; omega) | exact ⟨0, rfl, Or.inr ⟨rfl, by unfold goesK; rw [fSpan_s q1 q2]; dsimp only; (repeat (first | rw [if_pos (by omega)] | rw [if_neg (by omega)]))⟩, mSc2.mk⟩) ⟨Nat.le_of_ble_eq_true rfl, Nat.le_of_ble_eq_true rfl⟩ dX4_goesTo_174
              · refine lv_aload_n hx hb dX4_goesTo_141 rfl (lv_at hl 2 rfl) ?_
                refine m_get 32 (by decide) (v := .int (zI (z : Int))) (congrArg (fun z => Value.int (zI z)) (show (sI (sI S 31 (oI (fLow cf pp (qq - pp + 1)))) 32 (oI (fHigh cf pp (qq - pp + 1)))).1 32 = (z : Int) from (by rw [sI_s, q2]; rfl))) hx hb hts hown hG (hts _ q3328) dX4_goesTo_142 ?_
                refine lv_aload_n hx hb dX4_goesTo_145 rfl (lv_at hl 2 rfl) ?_
                refine m_get 31 (by decide) (v := .int (zI (y : Int))) (congrArg (fun z => Value.int (zI z)) (show (sI (sI S 31 (oI (fLow cf pp (qq - pp + 1)))) 32 (oI (fHigh cf pp (qq - pp + 1)))).1 31 = (y : Int) from (by rw [sI_n (by decide), sI_s, q1]; rfl))) hx hb hts hown hG (hts _ q3327) dX4_goesTo_146 ?_
                refine g_isub hx hb dX4_goesTo_149 ?_
                refine lv_iconst (v := zI 1) hx hb dX4_goesTo_150 (by decide +kernel) ?_
                refine g_iadd hx hb dX4_goesTo_151 ?_
                refine lv_iload_n hx hb dX4_goesTo_152 rfl (lv_at hl 3 rfl) ?_
                refine lv_iconst (v := zI 5) hx hb dX4_goesTo_153 (by decide +kernel) ?_
                refine g_cne (tgt := 164) hx hb dX4_goesTo_154 (by decide) (by omega) (fun h9 => ?_) (fun h9 => ?_)
                · refine lv_iload hx hb dX4_goesTo_164 (lv_at hl 1 rfl) ?_
                  refine g_cgt (tgt := 173) hx hb dX4_goesTo_166 (by decide) (by omega) (fun h10 => ?_) (fun h10 => ?_)
                  · refine lv_iconst (v := zI 0) hx hb dX4_goesTo_173 (by decide +kernel) ?_
                    exact m_zret hx hb hr hlocks rfl hG (by first | (exfalso; omega) | exact ⟨0, rfl, Or.inr ⟨rfl, by unfold goesK; rw [fSpan_s q1 q2]; dsimp only; (repeat (first | rw [if_pos (by omega)] | rw [if_neg (by omega)]))⟩, mSc2.mk⟩) ⟨Nat.le_of_ble_eq_true rfl, Nat.le_of_ble_eq_true rfl⟩ dX4_goesTo_174
                  · refine lv_iconst (v := zI 1) hx hb dX4_goesTo_169 (by decide +kernel) ?_
                    refine lv_goto (tgt := 174) hx hb dX4_goesTo_170 (by decide) ?_
                    exact m_zret hx hb hr hlocks rfl hG (by first | (exfalso; omega) | exact ⟨1, rfl, Or.inl ⟨rfl, y, z, by unfold goesK; rw [fSpan_s q1 q2]; dsimp only; (repeat (first | rw [if_pos (by omega)] | rw [if_neg (by omega)])), by rw [sI_n (by decide), sI_s, q1]; rfl, by rw [sI_s, q2]; rfl⟩, mSc2.mk⟩) ⟨Nat.le_of_ble_eq_true rfl, Nat.le_of_ble_eq_true rfl⟩ dX4_goesTo_174
                · refine lv_iload hx hb dX4_goesTo_157 (lv_at hl 1 rfl) ?_
                  refine lv_iload_n hx hb dX4_goesTo_159 rfl (lv_at hl 4 rfl) ?_
                  refine g_iadd hx hb dX4_goesTo_160 ?_
                  refine lv_goto (tgt := 166) hx hb dX4_goesTo_161 (by decide) ?_
                  refine g_cgt (tgt := 173) hx hb dX4_goesTo_166 (by decide) (by omega) (fun h11 => ?_) (fun h11 => ?_)
                  · refine lv_iconst (v := zI 0) hx hb dX4_goesTo_173 (by decide +kernel) ?_
                    exact m_zret hx hb hr hlocks rfl hG (by first | (exfalso; omega) | exact ⟨0, rfl, Or.inr ⟨rfl, by unfold goesK; rw [fSpan_s q1 q2]; dsimp only; (repeat (first | rw [if_pos (by omega)] | rw [if_neg (by omega)]))⟩, mSc2.mk⟩) ⟨Nat.le_of_ble_eq_true rfl, Nat.le_of_ble_eq_true rfl⟩ dX4_goesTo_174
                  · refine lv_iconst (v := zI 1) hx hb dX4_goesTo_169 (by decide +kernel) ?_
                    refine lv_goto (tgt := 174) hx hb dX4_goesTo_170 (by decide) ?_
                    exact m_zret hx hb hr hlocks rfl hG (by first | (exfalso; omega) | exact ⟨1, rfl, Or.inl ⟨rfl, y, z, by unfold goesK; rw [fSpan_s q1 q2]; dsimp only; (repeat (first | rw [if_pos (by omega)] | rw [if_neg (by omega)])), by rw [sI_n (by decide), sI_s, q1]; rfl, by rw [sI_s, q2]; rfl⟩, mSc2.mk⟩) ⟨Nat.le_of_ble_eq_true rfl, Nat.le_of_ble_eq_true rfl⟩ dX4_goesTo_174
        · refine lv_bipush (v := zI 10) hx hb dX4_goesTo_106 (by decide +kernel) ?_
          refine lv_iload hx hb dX4_goesTo_108 (lv_at hl 0 rfl) ?_
          refine g_imul hx hb dX4_goesTo_110 ?_
          refine lv_iload_n hx hb dX4_goesTo_111 rfl (lv_at hl 4 rfl) ?_
          refine lv_iload hx hb dX4_goesTo_112 (lv_at hl 1 rfl) ?_
          refine g_imul hx hb dX4_goesTo_114 ?_
          refine g_clt (tgt := 122) hx hb dX4_goesTo_115 (by decide) (by omega) (fun h12 => ?_) (fun h12 => ?_)
          · refine lv_iconst (v := zI 0) hx hb dX4_goesTo_122 (by decide +kernel) ?_
            exact m_zret hx hb hr hlocks rfl hG (by first | (exfalso; omega) | exact ⟨0, rfl, Or.inr ⟨rfl, by unfold goesK; rw [fSpan_s q1 q2]; dsimp only; (repeat (first | rw [if_pos (by omega)] | rw [if_neg (by omega)]))⟩, mSc2.mk⟩) ⟨Nat.le_of_ble_eq_true rfl, Nat.le_of_ble_eq_true rfl⟩ dX4_goesTo_123
          · refine lv_iconst (v := zI 1) hx hb dX4_goesTo_118 (by decide +kernel) ?_
            refine lv_goto (tgt := 123) hx hb dX4_goesTo_119 (by decide) ?_
            exact m_zret hx hb hr hlocks rfl hG (by first | (exfalso; omega) | exact ⟨1, rfl, Or.inl ⟨rfl, y, z, by unfold goesK; rw [fSpan_s q1 q2]; dsimp only; (repeat (first | rw [if_pos (by omega)] | rw [if_neg (by omega)])), by rw [sI_n (by decide), sI_s, q1]; rfl, by rw [sI_s, q2]; rfl⟩, mSc2.mk⟩) ⟨Nat.le_of_ble_eq_true rfl, Nat.le_of_ble_eq_true rfl⟩ dX4_goesTo_123
      · exfalso; omega
  · refine g_look hx hb 1 (off := 34) (tgt := 48) dX4_goesTo_14 hk (by decide) rfl rfl (by decide) ?_
    refine lv_aload_n hx hb dX4_goesTo_48 rfl (lv_at hl 1 rfl) ?_
    refine lv_iload_n hx hb dX4_goesTo_49 rfl (lv_at hl 4 rfl) ?_
    refine lv_iconst (v := zI 0) hx hb dX4_goesTo_50 (by decide +kernel) ?_
    refine m_ci (va_runV (As := [.int (zI (b : Int)), .int (zI 0)]) (rest := []) ⟨hx, hb, hml, hown, hts⟩ (metX4_followsAsPoint (cf := cf) (pp := pp) (r := (cf pp)) hb9 hc (fun i x hx => by have := hcb i x hx; omega) ⟨hpq.1, by omega⟩ (Or.inl rfl) rfl (fun x hx => by have := hcb _ _ hx; omega)) (cwV 2 hts (lw_V q3623 q3625 qs70 q102 q3626) rfl rfl rfl (by decide +kernel) ⟨Nat.le_of_ble_eq_true rfl, Nat.le_of_ble_eq_true rfl⟩) (m_preV hG) rfl rfl hl.1 rfl (lv_room (Nat.le_of_ble_eq_true rfl)) dX4_goesTo_51 ⟨Nat.le_of_ble_eq_true rfl, Nat.le_of_ble_eq_true rfl⟩) hG (fun r_3 S_4 H locs hp hG => ?_)
    obtain ⟨b1, rfl, hb1, rfl⟩ := hp
    have hG : mW X mo ad (sI (sI S 31 (oI (cf pp))) 32 (oI (cf pp))) s H locs := hG
    exact m_zret hx hb hr hlocks (by rcases hb1 with ⟨rfl, -⟩ | ⟨rfl, -⟩ <;> rfl) hG (by
    refine ⟨b1, rfl, ?_, mSc2.mk⟩
    rcases hb1 with ⟨q, q2⟩ | ⟨q, q2⟩
    · obtain ⟨x, hx⟩ : ∃ x, (cf pp) = some x := by cases hq : (cf pp) with
        | none => exact absurd hq q2
        | some x => exact ⟨x, rfl⟩
      rw [hx]
      exact Or.inl ⟨q, x, x, by unfold goesK; (repeat (first | rw [if_pos (by omega)] | rw [if_neg (by omega)])); rw [hx]; rfl, by rw [sI_n (by decide), sI_s]; rfl, by rw [sI_s]; rfl⟩
    · exact Or.inr ⟨q, by unfold goesK; (repeat (first | rw [if_pos (by omega)] | rw [if_neg (by omega)])); rw [q2]; rfl⟩) ⟨Nat.le_of_ble_eq_true rfl, Nat.le_of_ble_eq_true rfl⟩ dX4_goesTo_54
  · refine g_look hx hb 2 (off := 73) (tgt := 87) dX4_goesTo_14 hk (by decide) rfl rfl (by decide) ?_
    refine lv_aload_n hx hb dX4_goesTo_87 rfl (lv_at hl 1 rfl) ?_
    refine lv_iload_n hx hb dX4_goesTo_88 rfl (lv_at hl 4 rfl) ?_
    refine m_ci (va_runV (As := [.int (zI (b : Int))]) (rest := []) ⟨hx, hb, hml, hown, hts⟩ (metX4_follows (cf := cf) (pp := pp) (n := qq - pp + 1) hb9 hc (fun i x hx => by have := hcb i x hx; omega) ⟨hpq.1, by omega, by omega⟩) (cwV 1 hts (lw_V q3627 q3629 qs71 q102 q3630) rfl rfl rfl (by decide +kernel) ⟨Nat.le_of_ble_eq_true rfl, Nat.le_of_ble_eq_true rfl⟩) (m_preV hG) rfl rfl hl.1 rfl (lv_room (Nat.le_of_ble_eq_true rfl)) dX4_goesTo_89 ⟨Nat.le_of_ble_eq_true rfl, Nat.le_of_ble_eq_true rfl⟩) hG (fun r_5 S_6 H locs hp hG => ?_)
    obtain ⟨rfl, rfl⟩ := hp
    have hG : mW X mo ad (sI (sI S 31 (oI (fLow cf pp (qq - pp + 1)))) 32 (oI (fHigh cf pp (qq - pp + 1)))) s H locs := hG
    obtain ⟨hcl, hcs⟩ := fL_cases hcb pp (qq - pp + 1)
    rcases hcs with ⟨q1, q2, q3⟩ | ⟨y, z, q1, q2, q3, q4, q5⟩
    · refine lv_istore (lv' := [(5, .int (zI (fCnt cf pp (qq - pp + 1) : Int))), (4, .int (zI (((qq : Int) - (pp : Int)) + 1))), (0, .ref mo), (1, .int (zI (kd : Int))), (2, .int (zI (a : Int))), (3, .int (zI (b : Int)))]) hx hb dX4_goesTo_92 hl (by decide) rfl (fun ls hl => ?_)
      refine lv_iload hx hb dX4_goesTo_94 (lv_at hl 0 rfl) ?_
      refine g_ne (tgt := 101) hx hb dX4_goesTo_96 (by decide) (by omega) (fun h2 => ?_) (fun h2 => ?_)
      · exfalso; omega
      · refine lv_iconst (v := zI 0) hx hb dX4_goesTo_99 (by decide +kernel) ?_
        exact m_zret hx hb hr hlocks rfl hG (⟨0, rfl, Or.inr ⟨rfl, by unfold goesK; (repeat (first | rw [if_pos (by omega)] | rw [if_neg (by omega)])); rw [fSpan_n q1]⟩, mSc2.mk⟩) ⟨Nat.le_of_ble_eq_true rfl, Nat.le_of_ble_eq_true rfl⟩ dX4_goesTo_100
    · refine lv_istore (lv' := [(5, .int (zI (fCnt cf pp (qq - pp + 1) : Int))), (4, .int (zI (((qq : Int) - (pp : Int)) + 1))), (0, .ref mo), (1, .int (zI (kd : Int))), (2, .int (zI (a : Int))), (3, .int (zI (b : Int)))]) hx hb dX4_goesTo_92 hl (by decide) rfl (fun ls hl => ?_)
      refine lv_iload hx hb dX4_goesTo_94 (lv_at hl 0 rfl) ?_
      refine g_ne (tgt := 101) hx hb dX4_goesTo_96 (by decide) (by omega) (fun h2 => ?_) (fun h2 => ?_)
      · refine lv_iload_n hx hb dX4_goesTo_101 rfl (lv_at hl 3 rfl) ?_
        refine lv_iconst (v := zI 4) hx hb dX4_goesTo_102 (by decide +kernel) ?_
        refine g_cne (tgt := 124) hx hb dX4_goesTo_103 (by decide) (by omega) (fun h13 => ?_) (fun h13 => ?_)
        · refine lv_iload_n hx hb dX4_goesTo_124 rfl (lv_at hl 3 rfl) ?_
          refine lv_iconst (v := zI 2) hx hb dX4_goesTo_125 (by decide +kernel) ?_
          refine g_ceq (tgt := 134) hx hb dX4_goesTo_126 (by decide) (by omega) (fun h14 => ?_) (fun h14 => ?_)
          · refine lv_iload hx hb dX4_goesTo_134 (lv_at hl 0 rfl) ?_
            refine lv_iload hx hb dX4_goesTo_136 (lv_at hl 1 rfl) ?_
            refine g_cne (tgt := 173) hx hb dX4_goesTo_138 (by decide) (by omega) (fun h15 => ?_) (fun h15 => ?_)
            · refine lv_iconst (v := zI 0) hx hb dX4_goesTo_173 (by decide +kernel) ?_
              exact m_zret hx hb hr hlocks rfl hG (by first | (exfalso; omega) | exact ⟨0, rfl, Or.inr ⟨rfl, by unfold goesK; rw [fSpan_s q1 q2]; dsimp only; (repeat (first | rw [if_pos (by omega)] | rw [if_neg (by omega)]))⟩, mSc2.mk⟩) ⟨Nat.le_of_ble_eq_true rfl, Nat.le_of_ble_eq_true rfl⟩ dX4_goesTo_174
            · refine lv_aload_n hx hb dX4_goesTo_141 rfl (lv_at hl 2 rfl) ?_
              refine m_get 32 (by decide) (v := .int (zI (z : Int))) (congrArg (fun z => Value.int (zI z)) (show (sI (sI S 31 (oI (fLow cf pp (qq - pp + 1)))) 32 (oI (fHigh cf pp (qq - pp + 1)))).1 32 = (z : Int) from (by rw [sI_s, q2]; rfl))) hx hb hts hown hG (hts _ q3328) dX4_goesTo_142 ?_
              refine lv_aload_n hx hb dX4_goesTo_145 rfl (lv_at hl 2 rfl) ?_
              refine m_get 31 (by decide) (v := .int (zI (y : Int))) (congrArg (fun z => Value.int (zI z)) (show (sI (sI S 31 (oI (fLow cf pp (qq - pp + 1)))) 32 (oI (fHigh cf pp (qq - pp + 1)))).1 31 = (y : Int) from (by rw [sI_n (by decide), sI_s, q1]; rfl))) hx hb hts hown hG (hts _ q3327) dX4_goesTo_146 ?_
              refine g_isub hx hb dX4_goesTo_149 ?_
              refine lv_iconst (v := zI 1) hx hb dX4_goesTo_150 (by decide +kernel) ?_
              refine g_iadd hx hb dX4_goesTo_151 ?_
              refine lv_iload_n hx hb dX4_goesTo_152 rfl (lv_at hl 3 rfl) ?_
              refine lv_iconst (v := zI 5) hx hb dX4_goesTo_153 (by decide +kernel) ?_
              refine g_cne (tgt := 164) hx hb dX4_goesTo_154 (by decide) (by omega) (fun h16 => ?_) (fun h16 => ?_)
              · refine lv_iload hx hb dX4_goesTo_164 (lv_at hl 1 rfl) ?_
                refine g_cgt (tgt := 173) hx hb dX4_goesTo_166 (by decide) (by omega) (fun h17 => ?_) (fun h17 => ?_)
                · refine lv_iconst (v := zI 0) hx hb dX4_goesTo_173 (by decide +kernel) ?_
                  exact m_zret hx hb hr hlocks rfl hG (by first | (exfalso; omega) | exact ⟨0, rfl, Or.inr ⟨rfl, by unfold goesK; rw [fSpan_s q1 q2]; dsimp only; (repeat (first | rw [if_pos (by omega)] | rw [if_neg (by omega)]))⟩, mSc2.mk⟩) ⟨Nat.le_of_ble_eq_true rfl, Nat.le_of_ble_eq_true rfl⟩ dX4_goesTo_174
                · refine lv_iconst (v := zI 1) hx hb dX4_goesTo_169 (by decide +kernel) ?_
                  refine lv_goto (tgt := 174) hx hb dX4_goesTo_170 (by decide) ?_
                  exact m_zret hx hb hr hlocks rfl hG (by first | (exfalso; omega) | exact ⟨1, rfl, Or.inl ⟨rfl, y, z, by unfold goesK; rw [fSpan_s q1 q2]; dsimp only; (repeat (first | rw [if_pos (by omega)] | rw [if_neg (by omega)])), by rw [sI_n (by decide), sI_s, q1]; rfl, by rw [sI_s, q2]; rfl⟩, mSc2.mk⟩) ⟨Nat.le_of_ble_eq_true rfl, Nat.le_of_ble_eq_true rfl⟩ dX4_goesTo_174
              · refine lv_iload hx hb dX4_goesTo_157 (lv_at hl 1 rfl) ?_
                refine lv_iload_n hx hb dX4_goesTo_159 rfl (lv_at hl 4 rfl) ?_
                refine g_iadd hx hb dX4_goesTo_160 ?_
                refine lv_goto (tgt := 166) hx hb dX4_goesTo_161 (by decide) ?_
                refine g_cgt (tgt := 173) hx hb dX4_goesTo_166 (by decide) (by omega) (fun h18 => ?_) (fun h18 => ?_)
                · refine lv_iconst (v := zI 0) hx hb dX4_goesTo_173 (by decide +kernel) ?_
                  exact m_zret hx hb hr hlocks rfl hG (by first | (exfalso; omega) | exact ⟨0, rfl, Or.inr ⟨rfl, by unfold goesK; rw [fSpan_s q1 q2]; dsimp only; (repeat (first | rw [if_pos (by omega)] | rw [if_neg (by omega)]))⟩, mSc2.mk⟩) ⟨Nat.le_of_ble_eq_true rfl, Nat.le_of_ble_eq_true rfl⟩ dX4_goesTo_174
                · refine lv_iconst (v := zI 1) hx hb dX4_goesTo_169 (by decide +kernel) ?_
                  refine lv_goto (tgt := 174) hx hb dX4_goesTo_170 (by decide) ?_
                  exact m_zret hx hb hr hlocks rfl hG (by first | (exfalso; omega) | exact ⟨1, rfl, Or.inl ⟨rfl, y, z, by unfold goesK; rw [fSpan_s q1 q2]; dsimp only; (repeat (first | rw [if_pos (by omega)] | rw [if_neg (by omega)])), by rw [sI_n (by decide), sI_s, q1]; rfl, by rw [sI_s, q2]; rfl⟩, mSc2.mk⟩) ⟨Nat.le_of_ble_eq_true rfl, Nat.le_of_ble_eq_true rfl⟩ dX4_goesTo_174
          · refine lv_iload_n hx hb dX4_goesTo_129 rfl (lv_at hl 3 rfl) ?_
            refine lv_iconst (v := zI 5) hx hb dX4_goesTo_130 (by decide +kernel) ?_
            refine g_cne (tgt := 175) hx hb dX4_goesTo_131 (by decide) (by omega) (fun h19 => ?_) (fun h19 => ?_)
            · refine lv_iconst (v := zI 1) hx hb dX4_goesTo_175 (by decide +kernel) ?_
              exact m_zret hx hb hr hlocks rfl hG (by first | (exfalso; omega) | exact ⟨1, rfl, Or.inl ⟨rfl, y, z, by unfold goesK; rw [fSpan_s q1 q2]; dsimp only; (repeat (first | rw [if_pos (by omega)] | rw [if_neg (by omega)])), by rw [sI_n (by decide), sI_s, q1]; rfl, by rw [sI_s, q2]; rfl⟩, mSc2.mk⟩) ⟨Nat.le_of_ble_eq_true rfl, Nat.le_of_ble_eq_true rfl⟩ dX4_goesTo_176
            · refine lv_iload hx hb dX4_goesTo_134 (lv_at hl 0 rfl) ?_
              refine lv_iload hx hb dX4_goesTo_136 (lv_at hl 1 rfl) ?_
              refine g_cne (tgt := 173) hx hb dX4_goesTo_138 (by decide) (by omega) (fun h20 => ?_) (fun h20 => ?_)
              · refine lv_iconst (v := zI 0) hx hb dX4_goesTo_173 (by decide +kernel) ?_
                exact m_zret hx hb hr hlocks rfl hG (by first | (exfalso; omega) | exact ⟨0, rfl, Or.inr ⟨rfl, by unfold goesK; rw [fSpan_s q1 q2]; dsimp only; (repeat (first | rw [if_pos (by omega)] | rw [if_neg (by omega)]))⟩, mSc2.mk⟩) ⟨Nat.le_of_ble_eq_true rfl, Nat.le_of_ble_eq_true rfl⟩ dX4_goesTo_174
              · refine lv_aload_n hx hb dX4_goesTo_141 rfl (lv_at hl 2 rfl) ?_
                refine m_get 32 (by decide) (v := .int (zI (z : Int))) (congrArg (fun z => Value.int (zI z)) (show (sI (sI S 31 (oI (fLow cf pp (qq - pp + 1)))) 32 (oI (fHigh cf pp (qq - pp + 1)))).1 32 = (z : Int) from (by rw [sI_s, q2]; rfl))) hx hb hts hown hG (hts _ q3328) dX4_goesTo_142 ?_
                refine lv_aload_n hx hb dX4_goesTo_145 rfl (lv_at hl 2 rfl) ?_
                refine m_get 31 (by decide) (v := .int (zI (y : Int))) (congrArg (fun z => Value.int (zI z)) (show (sI (sI S 31 (oI (fLow cf pp (qq - pp + 1)))) 32 (oI (fHigh cf pp (qq - pp + 1)))).1 31 = (y : Int) from (by rw [sI_n (by decide), sI_s, q1]; rfl))) hx hb hts hown hG (hts _ q3327) dX4_goesTo_146 ?_
                refine g_isub hx hb dX4_goesTo_149 ?_
                refine lv_iconst (v := zI 1) hx hb dX4_goesTo_150 (by decide +kernel) ?_
                refine g_iadd hx hb dX4_goesTo_151 ?_
                refine lv_iload_n hx hb dX4_goesTo_152 rfl (lv_at hl 3 rfl) ?_
                refine lv_iconst (v := zI 5) hx hb dX4_goesTo_153 (by decide +kernel) ?_
                refine g_cne (tgt := 164) hx hb dX4_goesTo_154 (by decide) (by omega) (fun h21 => ?_) (fun h21 => ?_)
                · refine lv_iload hx hb dX4_goesTo_164 (lv_at hl 1 rfl) ?_
                  refine g_cgt (tgt := 173) hx hb dX4_goesTo_166 (by decide) (by omega) (fun h22 => ?_) (fun h22 => ?_)
                  · refine lv_iconst (v := zI 0) hx hb dX4_goesTo_173 (by decide +kernel) ?_
                    exact m_zret hx hb hr hlocks rfl hG (by first | (exfalso; omega) | exact ⟨0, rfl, Or.inr ⟨rfl, by unfold goesK; rw [fSpan_s q1 q2]; dsimp only; (repeat (first | rw [if_pos (by omega)] | rw [if_neg (by omega)]))⟩, mSc2.mk⟩) ⟨Nat.le_of_ble_eq_true rfl, Nat.le_of_ble_eq_true rfl⟩ dX4_goesTo_174
                  · refine lv_iconst (v := zI 1) hx hb dX4_goesTo_169 (by decide +kernel) ?_
                    refine lv_goto (tgt := 174) hx hb dX4_goesTo_170 (by decide) ?_
                    exact m_zret hx hb hr hlocks rfl hG (by first | (exfalso; omega) | exact ⟨1, rfl, Or.inl ⟨rfl, y, z, by unfold goesK; rw [fSpan_s q1 q2]; dsimp only; (repeat (first | rw [if_pos (by omega)] | rw [if_neg (by omega)])), by rw [sI_n (by decide), sI_s, q1]; rfl, by rw [sI_s, q2]; rfl⟩, mSc2.mk⟩) ⟨Nat.le_of_ble_eq_true rfl, Nat.le_of_ble_eq_true rfl⟩ dX4_goesTo_174
                · refine lv_iload hx hb dX4_goesTo_157 (lv_at hl 1 rfl) ?_
                  refine lv_iload_n hx hb dX4_goesTo_159 rfl (lv_at hl 4 rfl) ?_
                  refine g_iadd hx hb dX4_goesTo_160 ?_
                  refine lv_goto (tgt := 166) hx hb dX4_goesTo_161 (by decide) ?_
                  refine g_cgt (tgt := 173) hx hb dX4_goesTo_166 (by decide) (by omega) (fun h23 => ?_) (fun h23 => ?_)
                  · refine lv_iconst (v := zI 0) hx hb dX4_goesTo_173 (by decide +kernel) ?_
                    exact m_zret hx hb hr hlocks rfl hG (by first | (exfalso; omega) | exact ⟨0, rfl, Or.inr ⟨rfl, by unfold goesK; rw [fSpan_s q1 q2]; dsimp only; (repeat (first | rw [if_pos (by omega)] | rw [if_neg (by omega)]))⟩, mSc2.mk⟩) ⟨Nat.le_of_ble_eq_true rfl, Nat.le_of_ble_eq_true rfl⟩ dX4_goesTo_174
                  · refine lv_iconst (v := zI 1) hx hb dX4_goesTo_169 (by decide +kernel) ?_
                    refine lv_goto (tgt := 174) hx hb dX4_goesTo_170 (by decide) ?_
                    exact m_zret hx hb hr hlocks rfl hG (by first | (exfalso; omega) | exact ⟨1, rfl, Or.inl ⟨rfl, y, z, by unfold goesK; rw [fSpan_s q1 q2]; dsimp only; (repeat (first | rw [if_pos (by omega)] | rw [if_neg (by omega)])), by rw [sI_n (by decide), sI_s, q1]; rfl, by rw [sI_s, q2]; rfl⟩, mSc2.mk⟩) ⟨Nat.le_of_ble_eq_true rfl, Nat.le_of_ble_eq_true rfl⟩ dX4_goesTo_174
        · refine lv_bipush (v := zI 10) hx hb dX4_goesTo_106 (by decide +kernel) ?_
          refine lv_iload hx hb dX4_goesTo_108 (lv_at hl 0 rfl) ?_
          refine g_imul hx hb dX4_goesTo_110 ?_
          refine lv_iload_n hx hb dX4_goesTo_111 rfl (lv_at hl 4 rfl) ?_
          refine lv_iload hx hb dX4_goesTo_112 (lv_at hl 1 rfl) ?_
          refine g_imul hx hb dX4_goesTo_114 ?_
          refine g_clt (tgt := 122) hx hb dX4_goesTo_115 (by decide) (by omega) (fun h24 => ?_) (fun h24 => ?_)
          · refine lv_iconst (v := zI 0) hx hb dX4_goesTo_122 (by decide +kernel) ?_
            exact m_zret hx hb hr hlocks rfl hG (by first | (exfalso; omega) | exact ⟨0, rfl, Or.inr ⟨rfl, by unfold goesK; rw [fSpan_s q1 q2]; dsimp only; (repeat (first | rw [if_pos (by omega)] | rw [if_neg (by omega)]))⟩, mSc2.mk⟩) ⟨Nat.le_of_ble_eq_true rfl, Nat.le_of_ble_eq_true rfl⟩ dX4_goesTo_123
          · refine lv_iconst (v := zI 1) hx hb dX4_goesTo_118 (by decide +kernel) ?_
            refine lv_goto (tgt := 123) hx hb dX4_goesTo_119 (by decide) ?_
            exact m_zret hx hb hr hlocks rfl hG (by first | (exfalso; omega) | exact ⟨1, rfl, Or.inl ⟨rfl, y, z, by unfold goesK; rw [fSpan_s q1 q2]; dsimp only; (repeat (first | rw [if_pos (by omega)] | rw [if_neg (by omega)])), by rw [sI_n (by decide), sI_s, q1]; rfl, by rw [sI_s, q2]; rfl⟩, mSc2.mk⟩) ⟨Nat.le_of_ble_eq_true rfl, Nat.le_of_ble_eq_true rfl⟩ dX4_goesTo_123
      · exfalso; omega
  · refine g_look hx hb 3 (off := 41) (tgt := 55) dX4_goesTo_14 hk (by decide) rfl rfl (by decide) ?_
    refine lv_aload_n hx hb dX4_goesTo_55 rfl (lv_at hl 1 rfl) ?_
    refine lv_iload_n hx hb dX4_goesTo_56 rfl (lv_at hl 4 rfl) ?_
    refine lv_iconst (v := zI 1) hx hb dX4_goesTo_57 (by decide +kernel) ?_
    refine m_ci (va_runV (As := [.int (zI (b : Int)), .int (zI 1)]) (rest := []) ⟨hx, hb, hml, hown, hts⟩ (metX4_followsAsPoint (cf := cf) (pp := pp) (r := (upC cf pp)) hb9 hc (fun i x hx => by have := hcb i x hx; omega) ⟨hpq.1, by omega⟩ (Or.inr rfl) rfl (fun x hx => by have := upC_lt hcb _ _ hx; omega)) (cwV 2 hts (lw_V q3623 q3625 qs70 q102 q3626) rfl rfl rfl (by decide +kernel) ⟨Nat.le_of_ble_eq_true rfl, Nat.le_of_ble_eq_true rfl⟩) (m_preV hG) rfl rfl hl.1 rfl (lv_room (Nat.le_of_ble_eq_true rfl)) dX4_goesTo_58 ⟨Nat.le_of_ble_eq_true rfl, Nat.le_of_ble_eq_true rfl⟩) hG (fun r_7 S_8 H locs hp hG => ?_)
    obtain ⟨b1, rfl, hb1, rfl⟩ := hp
    have hG : mW X mo ad (sI (sI S 31 (oI (upC cf pp))) 32 (oI (upC cf pp))) s H locs := hG
    exact m_zret hx hb hr hlocks (by rcases hb1 with ⟨rfl, -⟩ | ⟨rfl, -⟩ <;> rfl) hG (by
    refine ⟨b1, rfl, ?_, mSc2.mk⟩
    rcases hb1 with ⟨q, q2⟩ | ⟨q, q2⟩
    · obtain ⟨x, hx⟩ : ∃ x, (upC cf pp) = some x := by cases hq : (upC cf pp) with
        | none => exact absurd hq q2
        | some x => exact ⟨x, rfl⟩
      rw [hx]
      exact Or.inl ⟨q, x, x, by unfold goesK; (repeat (first | rw [if_pos (by omega)] | rw [if_neg (by omega)])); rw [hx]; rfl, by rw [sI_n (by decide), sI_s]; rfl, by rw [sI_s]; rfl⟩
    · exact Or.inr ⟨q, by unfold goesK; (repeat (first | rw [if_pos (by omega)] | rw [if_neg (by omega)])); rw [q2]; rfl⟩) ⟨Nat.le_of_ble_eq_true rfl, Nat.le_of_ble_eq_true rfl⟩ dX4_goesTo_61
  · refine g_look hx hb 4 (off := 73) (tgt := 87) dX4_goesTo_14 hk (by decide) rfl rfl (by decide) ?_
    refine lv_aload_n hx hb dX4_goesTo_87 rfl (lv_at hl 1 rfl) ?_
    refine lv_iload_n hx hb dX4_goesTo_88 rfl (lv_at hl 4 rfl) ?_
    refine m_ci (va_runV (As := [.int (zI (b : Int))]) (rest := []) ⟨hx, hb, hml, hown, hts⟩ (metX4_follows (cf := cf) (pp := pp) (n := qq - pp + 1) hb9 hc (fun i x hx => by have := hcb i x hx; omega) ⟨hpq.1, by omega, by omega⟩) (cwV 1 hts (lw_V q3627 q3629 qs71 q102 q3630) rfl rfl rfl (by decide +kernel) ⟨Nat.le_of_ble_eq_true rfl, Nat.le_of_ble_eq_true rfl⟩) (m_preV hG) rfl rfl hl.1 rfl (lv_room (Nat.le_of_ble_eq_true rfl)) dX4_goesTo_89 ⟨Nat.le_of_ble_eq_true rfl, Nat.le_of_ble_eq_true rfl⟩) hG (fun r_9 S_10 H locs hp hG => ?_)
    obtain ⟨rfl, rfl⟩ := hp
    have hG : mW X mo ad (sI (sI S 31 (oI (fLow cf pp (qq - pp + 1)))) 32 (oI (fHigh cf pp (qq - pp + 1)))) s H locs := hG
    obtain ⟨hcl, hcs⟩ := fL_cases hcb pp (qq - pp + 1)
    rcases hcs with ⟨q1, q2, q3⟩ | ⟨y, z, q1, q2, q3, q4, q5⟩
    · refine lv_istore (lv' := [(5, .int (zI (fCnt cf pp (qq - pp + 1) : Int))), (4, .int (zI (((qq : Int) - (pp : Int)) + 1))), (0, .ref mo), (1, .int (zI (kd : Int))), (2, .int (zI (a : Int))), (3, .int (zI (b : Int)))]) hx hb dX4_goesTo_92 hl (by decide) rfl (fun ls hl => ?_)
      refine lv_iload hx hb dX4_goesTo_94 (lv_at hl 0 rfl) ?_
      refine g_ne (tgt := 101) hx hb dX4_goesTo_96 (by decide) (by omega) (fun h2 => ?_) (fun h2 => ?_)
      · exfalso; omega
      · refine lv_iconst (v := zI 0) hx hb dX4_goesTo_99 (by decide +kernel) ?_
        exact m_zret hx hb hr hlocks rfl hG (⟨0, rfl, Or.inr ⟨rfl, by unfold goesK; (repeat (first | rw [if_pos (by omega)] | rw [if_neg (by omega)])); rw [fSpan_n q1]⟩, mSc2.mk⟩) ⟨Nat.le_of_ble_eq_true rfl, Nat.le_of_ble_eq_true rfl⟩ dX4_goesTo_100
    · refine lv_istore (lv' := [(5, .int (zI (fCnt cf pp (qq - pp + 1) : Int))), (4, .int (zI (((qq : Int) - (pp : Int)) + 1))), (0, .ref mo), (1, .int (zI (kd : Int))), (2, .int (zI (a : Int))), (3, .int (zI (b : Int)))]) hx hb dX4_goesTo_92 hl (by decide) rfl (fun ls hl => ?_)
      refine lv_iload hx hb dX4_goesTo_94 (lv_at hl 0 rfl) ?_
      refine g_ne (tgt := 101) hx hb dX4_goesTo_96 (by decide) (by omega) (fun h2 => ?_) (fun h2 => ?_)
      · have hmul : a * (qq - pp + 1) = a * (qq - pp + 1) := rfl
        refine lv_iload_n hx hb dX4_goesTo_101 rfl (lv_at hl 3 rfl) ?_
        refine lv_iconst (v := zI 4) hx hb dX4_goesTo_102 (by decide +kernel) ?_
        refine g_cne (tgt := 124) hx hb dX4_goesTo_103 (by decide) (by omega) (fun h25 => ?_) (fun h25 => ?_)
        · refine lv_iload_n hx hb dX4_goesTo_124 rfl (lv_at hl 3 rfl) ?_
          refine lv_iconst (v := zI 2) hx hb dX4_goesTo_125 (by decide +kernel) ?_
          refine g_ceq (tgt := 134) hx hb dX4_goesTo_126 (by decide) (by omega) (fun h26 => ?_) (fun h26 => ?_)
          · refine lv_iload hx hb dX4_goesTo_134 (lv_at hl 0 rfl) ?_
            refine lv_iload hx hb dX4_goesTo_136 (lv_at hl 1 rfl) ?_
            refine g_cne (tgt := 173) hx hb dX4_goesTo_138 (by decide) (by omega) (fun h27 => ?_) (fun h27 => ?_)
            · refine lv_iconst (v := zI 0) hx hb dX4_goesTo_173 (by decide +kernel) ?_
              exact m_zret hx hb hr hlocks rfl hG (by first | (exfalso; omega) | exact ⟨0, rfl, Or.inr ⟨rfl, by unfold goesK; rw [fSpan_s q1 q2]; dsimp only; (repeat (first | rw [if_pos (by omega)] | rw [if_neg (by omega)]))⟩, mSc2.mk⟩) ⟨Nat.le_of_ble_eq_true rfl, Nat.le_of_ble_eq_true rfl⟩ dX4_goesTo_174
            · refine lv_aload_n hx hb dX4_goesTo_141 rfl (lv_at hl 2 rfl) ?_
              refine m_get 32 (by decide) (v := .int (zI (z : Int))) (congrArg (fun z => Value.int (zI z)) (show (sI (sI S 31 (oI (fLow cf pp (qq - pp + 1)))) 32 (oI (fHigh cf pp (qq - pp + 1)))).1 32 = (z : Int) from (by rw [sI_s, q2]; rfl))) hx hb hts hown hG (hts _ q3328) dX4_goesTo_142 ?_
              refine lv_aload_n hx hb dX4_goesTo_145 rfl (lv_at hl 2 rfl) ?_
              refine m_get 31 (by decide) (v := .int (zI (y : Int))) (congrArg (fun z => Value.int (zI z)) (show (sI (sI S 31 (oI (fLow cf pp (qq - pp + 1)))) 32 (oI (fHigh cf pp (qq - pp + 1)))).1 31 = (y : Int) from (by rw [sI_n (by decide), sI_s, q1]; rfl))) hx hb hts hown hG (hts _ q3327) dX4_goesTo_146 ?_
              refine g_isub hx hb dX4_goesTo_149 ?_
              refine lv_iconst (v := zI 1) hx hb dX4_goesTo_150 (by decide +kernel) ?_
              refine g_iadd hx hb dX4_goesTo_151 ?_
              refine lv_iload_n hx hb dX4_goesTo_152 rfl (lv_at hl 3 rfl) ?_
              refine lv_iconst (v := zI 5) hx hb dX4_goesTo_153 (by decide +kernel) ?_
              refine g_cne (tgt := 164) hx hb dX4_goesTo_154 (by decide) (by omega) (fun h28 => ?_) (fun h28 => ?_)
              · refine lv_iload hx hb dX4_goesTo_164 (lv_at hl 1 rfl) ?_
                refine g_cgt (tgt := 173) hx hb dX4_goesTo_166 (by decide) (by omega) (fun h29 => ?_) (fun h29 => ?_)
                · refine lv_iconst (v := zI 0) hx hb dX4_goesTo_173 (by decide +kernel) ?_
                  exact m_zret hx hb hr hlocks rfl hG (by first | (exfalso; omega) | exact ⟨0, rfl, Or.inr ⟨rfl, by unfold goesK; rw [fSpan_s q1 q2]; dsimp only; (repeat (first | rw [if_pos (by omega)] | rw [if_neg (by omega)]))⟩, mSc2.mk⟩) ⟨Nat.le_of_ble_eq_true rfl, Nat.le_of_ble_eq_true rfl⟩ dX4_goesTo_174
                · refine lv_iconst (v := zI 1) hx hb dX4_goesTo_169 (by decide +kernel) ?_
                  refine lv_goto (tgt := 174) hx hb dX4_goesTo_170 (by decide) ?_
                  exact m_zret hx hb hr hlocks rfl hG (by first | (exfalso; omega) | exact ⟨1, rfl, Or.inl ⟨rfl, y, z, by unfold goesK; rw [fSpan_s q1 q2]; dsimp only; (repeat (first | rw [if_pos (by omega)] | rw [if_neg (by omega)])), by rw [sI_n (by decide), sI_s, q1]; rfl, by rw [sI_s, q2]; rfl⟩, mSc2.mk⟩) ⟨Nat.le_of_ble_eq_true rfl, Nat.le_of_ble_eq_true rfl⟩ dX4_goesTo_174
              · refine lv_iload hx hb dX4_goesTo_157 (lv_at hl 1 rfl) ?_
                refine lv_iload_n hx hb dX4_goesTo_159 rfl (lv_at hl 4 rfl) ?_
                refine g_iadd hx hb dX4_goesTo_160 ?_
                refine lv_goto (tgt := 166) hx hb dX4_goesTo_161 (by decide) ?_
                refine g_cgt (tgt := 173) hx hb dX4_goesTo_166 (by decide) (by omega) (fun h30 => ?_) (fun h30 => ?_)
                · refine lv_iconst (v := zI 0) hx hb dX4_goesTo_173 (by decide +kernel) ?_
                  exact m_zret hx hb hr hlocks rfl hG (by first | (exfalso; omega) | exact ⟨0, rfl, Or.inr ⟨rfl, by unfold goesK; rw [fSpan_s q1 q2]; dsimp only; (repeat (first | rw [if_pos (by omega)] | rw [if_neg (by omega)]))⟩, mSc2.mk⟩) ⟨Nat.le_of_ble_eq_true rfl, Nat.le_of_ble_eq_true rfl⟩ dX4_goesTo_174
                · refine lv_iconst (v := zI 1) hx hb dX4_goesTo_169 (by decide +kernel) ?_
                  refine lv_goto (tgt := 174) hx hb dX4_goesTo_170 (by decide) ?_
                  exact m_zret hx hb hr hlocks rfl hG (by first | (exfalso; omega) | exact ⟨1, rfl, Or.inl ⟨rfl, y, z, by unfold goesK; rw [fSpan_s q1 q2]; dsimp only; (repeat (first | rw [if_pos (by omega)] | rw [if_neg (by omega)])), by rw [sI_n (by decide), sI_s, q1]; rfl, by rw [sI_s, q2]; rfl⟩, mSc2.mk⟩) ⟨Nat.le_of_ble_eq_true rfl, Nat.le_of_ble_eq_true rfl⟩ dX4_goesTo_174
          · refine lv_iload_n hx hb dX4_goesTo_129 rfl (lv_at hl 3 rfl) ?_
            refine lv_iconst (v := zI 5) hx hb dX4_goesTo_130 (by decide +kernel) ?_
            refine g_cne (tgt := 175) hx hb dX4_goesTo_131 (by decide) (by omega) (fun h31 => ?_) (fun h31 => ?_)
            · refine lv_iconst (v := zI 1) hx hb dX4_goesTo_175 (by decide +kernel) ?_
              exact m_zret hx hb hr hlocks rfl hG (by first | (exfalso; omega) | exact ⟨1, rfl, Or.inl ⟨rfl, y, z, by unfold goesK; rw [fSpan_s q1 q2]; dsimp only; (repeat (first | rw [if_pos (by omega)] | rw [if_neg (by omega)])), by rw [sI_n (by decide), sI_s, q1]; rfl, by rw [sI_s, q2]; rfl⟩, mSc2.mk⟩) ⟨Nat.le_of_ble_eq_true rfl, Nat.le_of_ble_eq_true rfl⟩ dX4_goesTo_176
            · refine lv_iload hx hb dX4_goesTo_134 (lv_at hl 0 rfl) ?_
              refine lv_iload hx hb dX4_goesTo_136 (lv_at hl 1 rfl) ?_
              refine g_cne (tgt := 173) hx hb dX4_goesTo_138 (by decide) (by omega) (fun h32 => ?_) (fun h32 => ?_)
              · refine lv_iconst (v := zI 0) hx hb dX4_goesTo_173 (by decide +kernel) ?_
                exact m_zret hx hb hr hlocks rfl hG (by first | (exfalso; omega) | exact ⟨0, rfl, Or.inr ⟨rfl, by unfold goesK; rw [fSpan_s q1 q2]; dsimp only; (repeat (first | rw [if_pos (by omega)] | rw [if_neg (by omega)]))⟩, mSc2.mk⟩) ⟨Nat.le_of_ble_eq_true rfl, Nat.le_of_ble_eq_true rfl⟩ dX4_goesTo_174
              · refine lv_aload_n hx hb dX4_goesTo_141 rfl (lv_at hl 2 rfl) ?_
                refine m_get 32 (by decide) (v := .int (zI (z : Int))) (congrArg (fun z => Value.int (zI z)) (show (sI (sI S 31 (oI (fLow cf pp (qq - pp + 1)))) 32 (oI (fHigh cf pp (qq - pp + 1)))).1 32 = (z : Int) from (by rw [sI_s, q2]; rfl))) hx hb hts hown hG (hts _ q3328) dX4_goesTo_142 ?_
                refine lv_aload_n hx hb dX4_goesTo_145 rfl (lv_at hl 2 rfl) ?_
                refine m_get 31 (by decide) (v := .int (zI (y : Int))) (congrArg (fun z => Value.int (zI z)) (show (sI (sI S 31 (oI (fLow cf pp (qq - pp + 1)))) 32 (oI (fHigh cf pp (qq - pp + 1)))).1 31 = (y : Int) from (by rw [sI_n (by decide), sI_s, q1]; rfl))) hx hb hts hown hG (hts _ q3327) dX4_goesTo_146 ?_
                refine g_isub hx hb dX4_goesTo_149 ?_
                refine lv_iconst (v := zI 1) hx hb dX4_goesTo_150 (by decide +kernel) ?_
                refine g_iadd hx hb dX4_goesTo_151 ?_
                refine lv_iload_n hx hb dX4_goesTo_152 rfl (lv_at hl 3 rfl) ?_
                refine lv_iconst (v := zI 5) hx hb dX4_goesTo_153 (by decide +kernel) ?_
                refine g_cne (tgt := 164) hx hb dX4_goesTo_154 (by decide) (by omega) (fun h33 => ?_) (fun h33 => ?_)
                · refine lv_iload hx hb dX4_goesTo_164 (lv_at hl 1 rfl) ?_
                  refine g_cgt (tgt := 173) hx hb dX4_goesTo_166 (by decide) (by omega) (fun h34 => ?_) (fun h34 => ?_)
                  · refine lv_iconst (v := zI 0) hx hb dX4_goesTo_173 (by decide +kernel) ?_
                    exact m_zret hx hb hr hlocks rfl hG (by first | (exfalso; omega) | exact ⟨0, rfl, Or.inr ⟨rfl, by unfold goesK; rw [fSpan_s q1 q2]; dsimp only; (repeat (first | rw [if_pos (by omega)] | rw [if_neg (by omega)]))⟩, mSc2.mk⟩) ⟨Nat.le_of_ble_eq_true rfl, Nat.le_of_ble_eq_true rfl⟩ dX4_goesTo_174
                  · refine lv_iconst (v := zI 1) hx hb dX4_goesTo_169 (by decide +kernel) ?_
                    refine lv_goto (tgt := 174) hx hb dX4_goesTo_170 (by decide) ?_
                    exact m_zret hx hb hr hlocks rfl hG (by first | (exfalso; omega) | exact ⟨1, rfl, Or.inl ⟨rfl, y, z, by unfold goesK; rw [fSpan_s q1 q2]; dsimp only; (repeat (first | rw [if_pos (by omega)] | rw [if_neg (by omega)])), by rw [sI_n (by decide), sI_s, q1]; rfl, by rw [sI_s, q2]; rfl⟩, mSc2.mk⟩) ⟨Nat.le_of_ble_eq_true rfl, Nat.le_of_ble_eq_true rfl⟩ dX4_goesTo_174
                · refine lv_iload hx hb dX4_goesTo_157 (lv_at hl 1 rfl) ?_
                  refine lv_iload_n hx hb dX4_goesTo_159 rfl (lv_at hl 4 rfl) ?_
                  refine g_iadd hx hb dX4_goesTo_160 ?_
                  refine lv_goto (tgt := 166) hx hb dX4_goesTo_161 (by decide) ?_
                  refine g_cgt (tgt := 173) hx hb dX4_goesTo_166 (by decide) (by omega) (fun h35 => ?_) (fun h35 => ?_)
                  · refine lv_iconst (v := zI 0) hx hb dX4_goesTo_173 (by decide +kernel) ?_
                    exact m_zret hx hb hr hlocks rfl hG (by first | (exfalso; omega) | exact ⟨0, rfl, Or.inr ⟨rfl, by unfold goesK; rw [fSpan_s q1 q2]; dsimp only; (repeat (first | rw [if_pos (by omega)] | rw [if_neg (by omega)]))⟩, mSc2.mk⟩) ⟨Nat.le_of_ble_eq_true rfl, Nat.le_of_ble_eq_true rfl⟩ dX4_goesTo_174
                  · refine lv_iconst (v := zI 1) hx hb dX4_goesTo_169 (by decide +kernel) ?_
                    refine lv_goto (tgt := 174) hx hb dX4_goesTo_170 (by decide) ?_
                    exact m_zret hx hb hr hlocks rfl hG (by first | (exfalso; omega) | exact ⟨1, rfl, Or.inl ⟨rfl, y, z, by unfold goesK; rw [fSpan_s q1 q2]; dsimp only; (repeat (first | rw [if_pos (by omega)] | rw [if_neg (by omega)])), by rw [sI_n (by decide), sI_s, q1]; rfl, by rw [sI_s, q2]; rfl⟩, mSc2.mk⟩) ⟨Nat.le_of_ble_eq_true rfl, Nat.le_of_ble_eq_true rfl⟩ dX4_goesTo_174
        · refine lv_bipush (v := zI 10) hx hb dX4_goesTo_106 (by decide +kernel) ?_
          refine lv_iload hx hb dX4_goesTo_108 (lv_at hl 0 rfl) ?_
          refine g_imul hx hb dX4_goesTo_110 ?_
          refine lv_iload_n hx hb dX4_goesTo_111 rfl (lv_at hl 4 rfl) ?_
          refine lv_iload hx hb dX4_goesTo_112 (lv_at hl 1 rfl) ?_
          refine g_imul hx hb dX4_goesTo_114 ?_
          refine g_topz (y := ((a * (qq - pp + 1) : Nat) : Int)) (by rw [Int.natCast_mul]; exact congrArg ((a : Int) * ·) (by omega)) ?_
          have hmb : a * (qq - pp + 1) ≤ 9 * 24 := Nat.mul_le_mul (by omega) (by omega)
          refine g_clt (tgt := 122) hx hb dX4_goesTo_115 (by decide) (by omega) (fun h36 => ?_) (fun h36 => ?_)
          · refine lv_iconst (v := zI 0) hx hb dX4_goesTo_122 (by decide +kernel) ?_
            exact m_zret hx hb hr hlocks rfl hG (by first | (exfalso; omega) | exact ⟨0, rfl, Or.inr ⟨rfl, by unfold goesK; rw [fSpan_s q1 q2]; dsimp only; (repeat (first | rw [if_pos (by omega)] | rw [if_neg (by omega)]))⟩, mSc2.mk⟩) ⟨Nat.le_of_ble_eq_true rfl, Nat.le_of_ble_eq_true rfl⟩ dX4_goesTo_123
          · refine lv_iconst (v := zI 1) hx hb dX4_goesTo_118 (by decide +kernel) ?_
            refine lv_goto (tgt := 123) hx hb dX4_goesTo_119 (by decide) ?_
            exact m_zret hx hb hr hlocks rfl hG (by first | (exfalso; omega) | exact ⟨1, rfl, Or.inl ⟨rfl, y, z, by unfold goesK; rw [fSpan_s q1 q2]; dsimp only; (repeat (first | rw [if_pos (by omega)] | rw [if_neg (by omega)])), by rw [sI_n (by decide), sI_s, q1]; rfl, by rw [sI_s, q2]; rfl⟩, mSc2.mk⟩) ⟨Nat.le_of_ble_eq_true rfl, Nat.le_of_ble_eq_true rfl⟩ dX4_goesTo_123
      · exfalso; omega
  · refine g_look hx hb 5 (off := 73) (tgt := 87) dX4_goesTo_14 hk (by decide) rfl rfl (by decide) ?_
    refine lv_aload_n hx hb dX4_goesTo_87 rfl (lv_at hl 1 rfl) ?_
    refine lv_iload_n hx hb dX4_goesTo_88 rfl (lv_at hl 4 rfl) ?_
    refine m_ci (va_runV (As := [.int (zI (b : Int))]) (rest := []) ⟨hx, hb, hml, hown, hts⟩ (metX4_follows (cf := cf) (pp := pp) (n := qq - pp + 1) hb9 hc (fun i x hx => by have := hcb i x hx; omega) ⟨hpq.1, by omega, by omega⟩) (cwV 1 hts (lw_V q3627 q3629 qs71 q102 q3630) rfl rfl rfl (by decide +kernel) ⟨Nat.le_of_ble_eq_true rfl, Nat.le_of_ble_eq_true rfl⟩) (m_preV hG) rfl rfl hl.1 rfl (lv_room (Nat.le_of_ble_eq_true rfl)) dX4_goesTo_89 ⟨Nat.le_of_ble_eq_true rfl, Nat.le_of_ble_eq_true rfl⟩) hG (fun r_11 S_12 H locs hp hG => ?_)
    obtain ⟨rfl, rfl⟩ := hp
    have hG : mW X mo ad (sI (sI S 31 (oI (fLow cf pp (qq - pp + 1)))) 32 (oI (fHigh cf pp (qq - pp + 1)))) s H locs := hG
    obtain ⟨hcl, hcs⟩ := fL_cases hcb pp (qq - pp + 1)
    rcases hcs with ⟨q1, q2, q3⟩ | ⟨y, z, q1, q2, q3, q4, q5⟩
    · refine lv_istore (lv' := [(5, .int (zI (fCnt cf pp (qq - pp + 1) : Int))), (4, .int (zI (((qq : Int) - (pp : Int)) + 1))), (0, .ref mo), (1, .int (zI (kd : Int))), (2, .int (zI (a : Int))), (3, .int (zI (b : Int)))]) hx hb dX4_goesTo_92 hl (by decide) rfl (fun ls hl => ?_)
      refine lv_iload hx hb dX4_goesTo_94 (lv_at hl 0 rfl) ?_
      refine g_ne (tgt := 101) hx hb dX4_goesTo_96 (by decide) (by omega) (fun h2 => ?_) (fun h2 => ?_)
      · exfalso; omega
      · refine lv_iconst (v := zI 0) hx hb dX4_goesTo_99 (by decide +kernel) ?_
        exact m_zret hx hb hr hlocks rfl hG (⟨0, rfl, Or.inr ⟨rfl, by unfold goesK; (repeat (first | rw [if_pos (by omega)] | rw [if_neg (by omega)])); rw [fSpan_n q1]⟩, mSc2.mk⟩) ⟨Nat.le_of_ble_eq_true rfl, Nat.le_of_ble_eq_true rfl⟩ dX4_goesTo_100
    · refine lv_istore (lv' := [(5, .int (zI (fCnt cf pp (qq - pp + 1) : Int))), (4, .int (zI (((qq : Int) - (pp : Int)) + 1))), (0, .ref mo), (1, .int (zI (kd : Int))), (2, .int (zI (a : Int))), (3, .int (zI (b : Int)))]) hx hb dX4_goesTo_92 hl (by decide) rfl (fun ls hl => ?_)
      refine lv_iload hx hb dX4_goesTo_94 (lv_at hl 0 rfl) ?_
      refine g_ne (tgt := 101) hx hb dX4_goesTo_96 (by decide) (by omega) (fun h2 => ?_) (fun h2 => ?_)
      · refine lv_iload_n hx hb dX4_goesTo_101 rfl (lv_at hl 3 rfl) ?_
        refine lv_iconst (v := zI 4) hx hb dX4_goesTo_102 (by decide +kernel) ?_
        refine g_cne (tgt := 124) hx hb dX4_goesTo_103 (by decide) (by omega) (fun h37 => ?_) (fun h37 => ?_)
        · refine lv_iload_n hx hb dX4_goesTo_124 rfl (lv_at hl 3 rfl) ?_
          refine lv_iconst (v := zI 2) hx hb dX4_goesTo_125 (by decide +kernel) ?_
          refine g_ceq (tgt := 134) hx hb dX4_goesTo_126 (by decide) (by omega) (fun h38 => ?_) (fun h38 => ?_)
          · refine lv_iload hx hb dX4_goesTo_134 (lv_at hl 0 rfl) ?_
            refine lv_iload hx hb dX4_goesTo_136 (lv_at hl 1 rfl) ?_
            refine g_cne (tgt := 173) hx hb dX4_goesTo_138 (by decide) (by omega) (fun h39 => ?_) (fun h39 => ?_)
            · refine lv_iconst (v := zI 0) hx hb dX4_goesTo_173 (by decide +kernel) ?_
              exact m_zret hx hb hr hlocks rfl hG (by first | (exfalso; omega) | exact ⟨0, rfl, Or.inr ⟨rfl, by unfold goesK; rw [fSpan_s q1 q2]; dsimp only; (repeat (first | rw [if_pos (by omega)] | rw [if_neg (by omega)]))⟩, mSc2.mk⟩) ⟨Nat.le_of_ble_eq_true rfl, Nat.le_of_ble_eq_true rfl⟩ dX4_goesTo_174
            · refine lv_aload_n hx hb dX4_goesTo_141 rfl (lv_at hl 2 rfl) ?_
              refine m_get 32 (by decide) (v := .int (zI (z : Int))) (congrArg (fun z => Value.int (zI z)) (show (sI (sI S 31 (oI (fLow cf pp (qq - pp + 1)))) 32 (oI (fHigh cf pp (qq - pp + 1)))).1 32 = (z : Int) from (by rw [sI_s, q2]; rfl))) hx hb hts hown hG (hts _ q3328) dX4_goesTo_142 ?_
              refine lv_aload_n hx hb dX4_goesTo_145 rfl (lv_at hl 2 rfl) ?_
              refine m_get 31 (by decide) (v := .int (zI (y : Int))) (congrArg (fun z => Value.int (zI z)) (show (sI (sI S 31 (oI (fLow cf pp (qq - pp + 1)))) 32 (oI (fHigh cf pp (qq - pp + 1)))).1 31 = (y : Int) from (by rw [sI_n (by decide), sI_s, q1]; rfl))) hx hb hts hown hG (hts _ q3327) dX4_goesTo_146 ?_
              refine g_isub hx hb dX4_goesTo_149 ?_
              refine lv_iconst (v := zI 1) hx hb dX4_goesTo_150 (by decide +kernel) ?_
              refine g_iadd hx hb dX4_goesTo_151 ?_
              refine lv_iload_n hx hb dX4_goesTo_152 rfl (lv_at hl 3 rfl) ?_
              refine lv_iconst (v := zI 5) hx hb dX4_goesTo_153 (by decide +kernel) ?_
              refine g_cne (tgt := 164) hx hb dX4_goesTo_154 (by decide) (by omega) (fun h40 => ?_) (fun h40 => ?_)
              · refine lv_iload hx hb dX4_goesTo_164 (lv_at hl 1 rfl) ?_
                refine g_cgt (tgt := 173) hx hb dX4_goesTo_166 (by decide) (by omega) (fun h41 => ?_) (fun h41 => ?_)
                · refine lv_iconst (v := zI 0) hx hb dX4_goesTo_173 (by decide +kernel) ?_
                  exact m_zret hx hb hr hlocks rfl hG (by first | (exfalso; omega) | exact ⟨0, rfl, Or.inr ⟨rfl, by unfold goesK; rw [fSpan_s q1 q2]; dsimp only; (repeat (first | rw [if_pos (by omega)] | rw [if_neg (by omega)]))⟩, mSc2.mk⟩) ⟨Nat.le_of_ble_eq_true rfl, Nat.le_of_ble_eq_true rfl⟩ dX4_goesTo_174
                · refine lv_iconst (v := zI 1) hx hb dX4_goesTo_169 (by decide +kernel) ?_
                  refine lv_goto (tgt := 174) hx hb dX4_goesTo_170 (by decide) ?_
                  exact m_zret hx hb hr hlocks rfl hG (by first | (exfalso; omega) | exact ⟨1, rfl, Or.inl ⟨rfl, y, z, by unfold goesK; rw [fSpan_s q1 q2]; dsimp only; (repeat (first | rw [if_pos (by omega)] | rw [if_neg (by omega)])), by rw [sI_n (by decide), sI_s, q1]; rfl, by rw [sI_s, q2]; rfl⟩, mSc2.mk⟩) ⟨Nat.le_of_ble_eq_true rfl, Nat.le_of_ble_eq_true rfl⟩ dX4_goesTo_174
              · refine lv_iload hx hb dX4_goesTo_157 (lv_at hl 1 rfl) ?_
                refine lv_iload_n hx hb dX4_goesTo_159 rfl (lv_at hl 4 rfl) ?_
                refine g_iadd hx hb dX4_goesTo_160 ?_
                refine lv_goto (tgt := 166) hx hb dX4_goesTo_161 (by decide) ?_
                refine g_cgt (tgt := 173) hx hb dX4_goesTo_166 (by decide) (by omega) (fun h42 => ?_) (fun h42 => ?_)
                · refine lv_iconst (v := zI 0) hx hb dX4_goesTo_173 (by decide +kernel) ?_
                  exact m_zret hx hb hr hlocks rfl hG (by first | (exfalso; omega) | exact ⟨0, rfl, Or.inr ⟨rfl, by unfold goesK; rw [fSpan_s q1 q2]; dsimp only; (repeat (first | rw [if_pos (by omega)] | rw [if_neg (by omega)]))⟩, mSc2.mk⟩) ⟨Nat.le_of_ble_eq_true rfl, Nat.le_of_ble_eq_true rfl⟩ dX4_goesTo_174
                · refine lv_iconst (v := zI 1) hx hb dX4_goesTo_169 (by decide +kernel) ?_
                  refine lv_goto (tgt := 174) hx hb dX4_goesTo_170 (by decide) ?_
                  exact m_zret hx hb hr hlocks rfl hG (by first | (exfalso; omega) | exact ⟨1, rfl, Or.inl ⟨rfl, y, z, by unfold goesK; rw [fSpan_s q1 q2]; dsimp only; (repeat (first | rw [if_pos (by omega)] | rw [if_neg (by omega)])), by rw [sI_n (by decide), sI_s, q1]; rfl, by rw [sI_s, q2]; rfl⟩, mSc2.mk⟩) ⟨Nat.le_of_ble_eq_true rfl, Nat.le_of_ble_eq_true rfl⟩ dX4_goesTo_174
          · refine lv_iload_n hx hb dX4_goesTo_129 rfl (lv_at hl 3 rfl) ?_
            refine lv_iconst (v := zI 5) hx hb dX4_goesTo_130 (by decide +kernel) ?_
            refine g_cne (tgt := 175) hx hb dX4_goesTo_131 (by decide) (by omega) (fun h43 => ?_) (fun h43 => ?_)
            · refine lv_iconst (v := zI 1) hx hb dX4_goesTo_175 (by decide +kernel) ?_
              exact m_zret hx hb hr hlocks rfl hG (by first | (exfalso; omega) | exact ⟨1, rfl, Or.inl ⟨rfl, y, z, by unfold goesK; rw [fSpan_s q1 q2]; dsimp only; (repeat (first | rw [if_pos (by omega)] | rw [if_neg (by omega)])), by rw [sI_n (by decide), sI_s, q1]; rfl, by rw [sI_s, q2]; rfl⟩, mSc2.mk⟩) ⟨Nat.le_of_ble_eq_true rfl, Nat.le_of_ble_eq_true rfl⟩ dX4_goesTo_176
            · refine lv_iload hx hb dX4_goesTo_134 (lv_at hl 0 rfl) ?_
              refine lv_iload hx hb dX4_goesTo_136 (lv_at hl 1 rfl) ?_
              refine g_cne (tgt := 173) hx hb dX4_goesTo_138 (by decide) (by omega) (fun h44 => ?_) (fun h44 => ?_)
              · refine lv_iconst (v := zI 0) hx hb dX4_goesTo_173 (by decide +kernel) ?_
                exact m_zret hx hb hr hlocks rfl hG (by first | (exfalso; omega) | exact ⟨0, rfl, Or.inr ⟨rfl, by unfold goesK; rw [fSpan_s q1 q2]; dsimp only; (repeat (first | rw [if_pos (by omega)] | rw [if_neg (by omega)]))⟩, mSc2.mk⟩) ⟨Nat.le_of_ble_eq_true rfl, Nat.le_of_ble_eq_true rfl⟩ dX4_goesTo_174
              · refine lv_aload_n hx hb dX4_goesTo_141 rfl (lv_at hl 2 rfl) ?_
                refine m_get 32 (by decide) (v := .int (zI (z : Int))) (congrArg (fun z => Value.int (zI z)) (show (sI (sI S 31 (oI (fLow cf pp (qq - pp + 1)))) 32 (oI (fHigh cf pp (qq - pp + 1)))).1 32 = (z : Int) from (by rw [sI_s, q2]; rfl))) hx hb hts hown hG (hts _ q3328) dX4_goesTo_142 ?_
                refine lv_aload_n hx hb dX4_goesTo_145 rfl (lv_at hl 2 rfl) ?_
                refine m_get 31 (by decide) (v := .int (zI (y : Int))) (congrArg (fun z => Value.int (zI z)) (show (sI (sI S 31 (oI (fLow cf pp (qq - pp + 1)))) 32 (oI (fHigh cf pp (qq - pp + 1)))).1 31 = (y : Int) from (by rw [sI_n (by decide), sI_s, q1]; rfl))) hx hb hts hown hG (hts _ q3327) dX4_goesTo_146 ?_
                refine g_isub hx hb dX4_goesTo_149 ?_
                refine lv_iconst (v := zI 1) hx hb dX4_goesTo_150 (by decide +kernel) ?_
                refine g_iadd hx hb dX4_goesTo_151 ?_
                refine lv_iload_n hx hb dX4_goesTo_152 rfl (lv_at hl 3 rfl) ?_
                refine lv_iconst (v := zI 5) hx hb dX4_goesTo_153 (by decide +kernel) ?_
                refine g_cne (tgt := 164) hx hb dX4_goesTo_154 (by decide) (by omega) (fun h45 => ?_) (fun h45 => ?_)
                · refine lv_iload hx hb dX4_goesTo_164 (lv_at hl 1 rfl) ?_
                  refine g_cgt (tgt := 173) hx hb dX4_goesTo_166 (by decide) (by omega) (fun h46 => ?_) (fun h46 => ?_)
                  · refine lv_iconst (v := zI 0) hx hb dX4_goesTo_173 (by decide +kernel) ?_
                    exact m_zret hx hb hr hlocks rfl hG (by first | (exfalso; omega) | exact ⟨0, rfl, Or.inr ⟨rfl, by unfold goesK; rw [fSpan_s q1 q2]; dsimp only; (repeat (first | rw [if_pos (by omega)] | rw [if_neg (by omega)]))⟩, mSc2.mk⟩) ⟨Nat.le_of_ble_eq_true rfl, Nat.le_of_ble_eq_true rfl⟩ dX4_goesTo_174
                  · refine lv_iconst (v := zI 1) hx hb dX4_goesTo_169 (by decide +kernel) ?_
                    refine lv_goto (tgt := 174) hx hb dX4_goesTo_170 (by decide) ?_
                    exact m_zret hx hb hr hlocks rfl hG (by first | (exfalso; omega) | exact ⟨1, rfl, Or.inl ⟨rfl, y, z, by unfold goesK; rw [fSpan_s q1 q2]; dsimp only; (repeat (first | rw [if_pos (by omega)] | rw [if_neg (by omega)])), by rw [sI_n (by decide), sI_s, q1]; rfl, by rw [sI_s, q2]; rfl⟩, mSc2.mk⟩) ⟨Nat.le_of_ble_eq_true rfl, Nat.le_of_ble_eq_true rfl⟩ dX4_goesTo_174
                · refine lv_iload hx hb dX4_goesTo_157 (lv_at hl 1 rfl) ?_
                  refine lv_iload_n hx hb dX4_goesTo_159 rfl (lv_at hl 4 rfl) ?_
                  refine g_iadd hx hb dX4_goesTo_160 ?_
                  refine lv_goto (tgt := 166) hx hb dX4_goesTo_161 (by decide) ?_
                  refine g_cgt (tgt := 173) hx hb dX4_goesTo_166 (by decide) (by omega) (fun h47 => ?_) (fun h47 => ?_)
                  · refine lv_iconst (v := zI 0) hx hb dX4_goesTo_173 (by decide +kernel) ?_
                    exact m_zret hx hb hr hlocks rfl hG (by first | (exfalso; omega) | exact ⟨0, rfl, Or.inr ⟨rfl, by unfold goesK; rw [fSpan_s q1 q2]; dsimp only; (repeat (first | rw [if_pos (by omega)] | rw [if_neg (by omega)]))⟩, mSc2.mk⟩) ⟨Nat.le_of_ble_eq_true rfl, Nat.le_of_ble_eq_true rfl⟩ dX4_goesTo_174
                  · refine lv_iconst (v := zI 1) hx hb dX4_goesTo_169 (by decide +kernel) ?_
                    refine lv_goto (tgt := 174) hx hb dX4_goesTo_170 (by decide) ?_
                    exact m_zret hx hb hr hlocks rfl hG (by first | (exfalso; omega) | exact ⟨1, rfl, Or.inl ⟨rfl, y, z, by unfold goesK; rw [fSpan_s q1 q2]; dsimp only; (repeat (first | rw [if_pos (by omega)] | rw [if_neg (by omega)])), by rw [sI_n (by decide), sI_s, q1]; rfl, by rw [sI_s, q2]; rfl⟩, mSc2.mk⟩) ⟨Nat.le_of_ble_eq_true rfl, Nat.le_of_ble_eq_true rfl⟩ dX4_goesTo_174
        · refine lv_bipush (v := zI 10) hx hb dX4_goesTo_106 (by decide +kernel) ?_
          refine lv_iload hx hb dX4_goesTo_108 (lv_at hl 0 rfl) ?_
          refine g_imul hx hb dX4_goesTo_110 ?_
          refine lv_iload_n hx hb dX4_goesTo_111 rfl (lv_at hl 4 rfl) ?_
          refine lv_iload hx hb dX4_goesTo_112 (lv_at hl 1 rfl) ?_
          refine g_imul hx hb dX4_goesTo_114 ?_
          refine g_clt (tgt := 122) hx hb dX4_goesTo_115 (by decide) (by omega) (fun h48 => ?_) (fun h48 => ?_)
          · refine lv_iconst (v := zI 0) hx hb dX4_goesTo_122 (by decide +kernel) ?_
            exact m_zret hx hb hr hlocks rfl hG (by first | (exfalso; omega) | exact ⟨0, rfl, Or.inr ⟨rfl, by unfold goesK; rw [fSpan_s q1 q2]; dsimp only; (repeat (first | rw [if_pos (by omega)] | rw [if_neg (by omega)]))⟩, mSc2.mk⟩) ⟨Nat.le_of_ble_eq_true rfl, Nat.le_of_ble_eq_true rfl⟩ dX4_goesTo_123
          · refine lv_iconst (v := zI 1) hx hb dX4_goesTo_118 (by decide +kernel) ?_
            refine lv_goto (tgt := 123) hx hb dX4_goesTo_119 (by decide) ?_
            exact m_zret hx hb hr hlocks rfl hG (by first | (exfalso; omega) | exact ⟨1, rfl, Or.inl ⟨rfl, y, z, by unfold goesK; rw [fSpan_s q1 q2]; dsimp only; (repeat (first | rw [if_pos (by omega)] | rw [if_neg (by omega)])), by rw [sI_n (by decide), sI_s, q1]; rfl, by rw [sI_s, q2]; rfl⟩, mSc2.mk⟩) ⟨Nat.le_of_ble_eq_true rfl, Nat.le_of_ble_eq_true rfl⟩ dX4_goesTo_123
      · exfalso; omega
  · refine g_look hx hb 6 (off := 48) (tgt := 62) dX4_goesTo_14 hk (by decide) rfl rfl (by decide) ?_
    refine lv_aload_n hx hb dX4_goesTo_62 rfl (lv_at hl 1 rfl) ?_
    refine lv_iload_n hx hb dX4_goesTo_63 rfl (lv_at hl 4 rfl) ?_
    refine lv_iconst (v := zI 1) hx hb dX4_goesTo_64 (by decide +kernel) ?_
    refine m_ci (va_runV (As := [.int (zI (b : Int)), .int (zI 1)]) (rest := []) ⟨hx, hb, hml, hown, hts⟩ (metX4_followsAsPoint (cf := cf) (pp := pp) (r := (upC cf pp)) hb9 hc (fun i x hx => by have := hcb i x hx; omega) ⟨hpq.1, by omega⟩ (Or.inr rfl) rfl (fun x hx => by have := upC_lt hcb _ _ hx; omega)) (cwV 2 hts (lw_V q3623 q3625 qs70 q102 q3626) rfl rfl rfl (by decide +kernel) ⟨Nat.le_of_ble_eq_true rfl, Nat.le_of_ble_eq_true rfl⟩) (m_preV hG) rfl rfl hl.1 rfl (lv_room (Nat.le_of_ble_eq_true rfl)) dX4_goesTo_65 ⟨Nat.le_of_ble_eq_true rfl, Nat.le_of_ble_eq_true rfl⟩) hG (fun r_13 S_14 H locs hp hG => ?_)
    obtain ⟨b1, rfl, hb1, rfl⟩ := hp
    have hG : mW X mo ad (sI (sI S 31 (oI (upC cf pp))) 32 (oI (upC cf pp))) s H locs := hG
    refine g_ne (tgt := 73) hx hb dX4_goesTo_68 (by decide) (by omega) (fun h2 => ?_) (fun h2 => ?_)
    · obtain ⟨x, hx9⟩ : ∃ x, (upC cf pp) = some x := by cases hq : (upC cf pp) with
        | none => exact absurd hq (hb1.elim (fun q => q.2) (fun q => absurd q.1 (by omega)))
        | some x => exact ⟨x, rfl⟩
      have hxn := upC_lt hcb _ _ hx9
      refine lv_aload_n hx hb dX4_goesTo_73 rfl (lv_at hl 1 rfl) ?_
      refine lv_aload_n hx hb dX4_goesTo_74 rfl (lv_at hl 1 rfl) ?_
      refine m_get 2 (by decide) (v := .ref (ad 2)) rfl hx hb hts hown hG (hts _ q3298) dX4_goesTo_75 ?_
      refine lv_iload_n hx hb dX4_goesTo_78 rfl (lv_at hl 4 rfl) ?_
      refine m_iald 2 rfl rfl (by decide) b (v := (nb : Int)) ⟨by omega, by show _ < 17; omega⟩ (show (sI (sI S 31 (oI (upC cf pp))) 32 (oI (upC cf pp))).2.1 2 b = (nb : Int) from hnb.1) hx hb hG dX4_goesTo_79 ?_
      refine lv_iconst (v := zI 1) hx hb dX4_goesTo_80 (by decide +kernel) ?_
      refine g_isub hx hb dX4_goesTo_81 ?_
      refine m_put 32 (by decide) rfl rfl (tyX4_ok 32 (by decide)) rfl rfl hx hb hts hown hG (hts _ q3328) dX4_goesTo_82 (fun H locs (hG : mW X mo ad (sI (sI (sI S 31 (oI (upC cf pp))) 32 (oI (upC cf pp))) 32 ((nb : Int) - 1)) s H locs) => ?_)
      refine lv_iconst (v := zI 1) hx hb dX4_goesTo_85 (by decide +kernel) ?_
      exact m_zret hx hb hr hlocks rfl hG (⟨1, rfl, Or.inl ⟨rfl, x, nb - 1, by unfold goesK; (repeat (first | rw [if_pos (by omega)] | rw [if_neg (by omega)])); rw [hx9]; rfl, by rw [sI_n (by decide), sI_n (by decide), sI_s, hx9]; rfl, by rw [sI_s]; omega⟩, mSc2.mk.I⟩) ⟨Nat.le_of_ble_eq_true rfl, Nat.le_of_ble_eq_true rfl⟩ dX4_goesTo_86
    · refine lv_iconst (v := zI 0) hx hb dX4_goesTo_71 (by decide +kernel) ?_
      exact m_zret hx hb hr hlocks rfl hG (⟨0, rfl, Or.inr ⟨rfl, by unfold goesK; (repeat (first | rw [if_pos (by omega)] | rw [if_neg (by omega)])); rw [hb1.elim (fun q => absurd q.1 (by omega)) (fun q => q.2)]; rfl⟩, mSc2.mk⟩) ⟨Nat.le_of_ble_eq_true rfl, Nat.le_of_ble_eq_true rfl⟩ dX4_goesTo_72

