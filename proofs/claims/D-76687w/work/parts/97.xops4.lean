set_option maxRecDepth 100000
theorem room_S {cells slots kc ks C S n m : Nat} (h : cells + n * kc ≤ C ∧ slots + n * ks ≤ S) (hn : m < n) : cells + m * kc ≤ C ∧ slots + m * ks ≤ S := by
  have h1 := Nat.mul_le_mul_right kc (Nat.le_of_lt hn)
  have h2 := Nat.mul_le_mul_right ks (Nat.le_of_lt hn)
  exact ⟨Nat.le_trans (Nat.add_le_add_left h1 _) h.1, Nat.le_trans (Nat.add_le_add_left h2 _) h.2⟩
theorem room_U {cells slots kc ks C S n m : Nat} (h : cells + n * kc ≤ C ∧ slots + n * ks ≤ S) (hn : m < n) : cells + kc + m * kc ≤ C ∧ slots + ks + m * ks ≤ S := by
  have h1 := Nat.mul_le_mul_right kc hn
  have h2 := Nat.mul_le_mul_right ks hn
  rw [Nat.succ_mul] at h1 h2
  exact ⟨by omega, by omega⟩
theorem iO_n (n : Nat) : iO (n : Int) = some n := by unfold iO; rw [if_neg (by omega)]; rfl
theorem thr_n9 {w : aW} {y i n d : Nat} (h : none = thr w y i n d) : none = thr w y i n (d + 1) := by
  show none = (thr w y i n d).bind _
  rw [← h]; rfl
theorem thr_s9 {w : aW} {y i n d f c : Nat} (h : some c = thr w y i n d) (hf : wFo w (anc (wFo w) (n - (d + 1)) y) = some f) : mPlace (wTx w f) (wTx w (anc (wFo w) (n - (d + 1)) y)) (wRun w) c = thr w y i n (d + 1) := by
  show _ = (thr w y i n d).bind (cmR w (anc (wFo w) (n - (d + 1)) y))
  rw [← h, cmR_f hf]; rfl
theorem thr_ln {w : aW} {y i n : Nat} (hi : i < (wTx w (anc (wFo w) n y)).length) : ∀ d x, thr w y i n d = some x → x < (wTx w (anc (wFo w) (n - d) y)).length := by
  intro d x h
  cases d with
  | zero => have h : some i = some x := h; cases h; exact hi
  | succ d =>
    have h : (thr w y i n d).bind (cmR w (anc (wFo w) (n - (d + 1)) y)) = some x := h
    cases hq : thr w y i n d with
    | none => rw [hq] at h; cases h
    | some z => rw [hq] at h; exact cmR_ln h
theorem cmF_f {w : aW} {t i f : Nat} (h : wFo w t = some f) : cmF w t i = fsB (fun x => decide (mPlace (wTx w f) (wTx w t) (wRun w) x = some i)) (wTx w f).length 0 := by
  unfold cmF cmR; simp only [h]
theorem cmF_n {w : aW} {t i : Nat} (h : wFo w t = none) : cmF w t i = none := by unfold cmF; simp only [h]
theorem wkBack_lt {w : aW} {b : Nat} {k : Wk} (hb : b < wN w) (hk : kL k < wN w ∧ kLP k ≤ kLQ k ∧ kLQ k < (wTx w (kL k)).length) : kL (wkBack w k b) < wN w ∧ kLP (wkBack w k b) ≤ kLQ (wkBack w k b) ∧ kLQ (wkBack w k b) < (wTx w (kL (wkBack w k b))).length := by
  unfold wkBack
  split
  · exact hk
  · rename_i s hs
    have h1 : s < scN (wTx w b) (kLP k) (kLQ k) := by
      unfold looks at hs
      split at hs
      · cases hs
      · rename_i s' hs'
        split at hs
        · cases hs; exact bsS_some _ _ hs'
        · cases hs
    unfold scN at h1
    split
    · exact ⟨hb, by show s ≤ s + (kLQ k - kLP k); omega, by show s + (kLQ k - kLP k) < (wTx w b).length; omega⟩
    · exact hk
theorem wkTo_lt {w : aW} {r : Rm} {kd t n : Nat} (hK : wOK w) (hr : rOn r < wN w ∧ rP r ≤ rQ r ∧ rQ r < (wTx w (rOn r)).length) (hn : ∀ k, k < n → anc (wFo w) k t < wN w) : ∀ d, d ≤ n → kL (wkTo w r kd t n d) < wN w ∧ kLP (wkTo w r kd t n d) ≤ kLQ (wkTo w r kd t n d) ∧ kLQ (wkTo w r kd t n d) < (wTx w (kL (wkTo w r kd t n d))).length := by
  intro d
  induction d with
  | zero => intro _; exact hr
  | succ d ih =>
    intro hd
    have h1 := ih (by omega)
    have hb := hn (n - (d + 1)) (by omega)
    show kL (wkStep w kd (rBy r) (anc (wFo w) (n - (d + 1)) t) (wkTo w r kd t n d)) < wN w ∧ kLP (wkStep w kd (rBy r) (anc (wFo w) (n - (d + 1)) t) (wkTo w r kd t n d)) ≤ kLQ (wkStep w kd (rBy r) (anc (wFo w) (n - (d + 1)) t) (wkTo w r kd t n d)) ∧ kLQ (wkStep w kd (rBy r) (anc (wFo w) (n - (d + 1)) t) (wkTo w r kd t n d)) < (wTx w (kL (wkStep w kd (rBy r) (anc (wFo w) (n - (d + 1)) t) (wkTo w r kd t n d)))).length
    unfold wkStep
    split
    · exact wkBack_lt hb h1
    · split
      · rename_i x y hg
        have := goesK_lt (fun i x h => cmR_ln h) hg
        exact ⟨hb, this.1, this.2⟩
      · exact wkBack_lt hb h1
set_option maxHeartbeats 4000000 in
theorem metX2_make_m {l : Launch} {X : gX} {F : gF} {V : gV} {Z : va_W} {kd k9 on pp qq : Nat} {an : Option Nat} {wa rv rk st : Nat} {ra la ma : Nat → Nat} {w : aW} (hW : xWd X F V 4 w wa rv rk st ra la ma) (hK : wOK w) (hM : wM w < 16) (hkd : kd ≤ 6) : Met l yX2_make (ws_ yX2_make cX2_make 7 (some FieldType.int)) ({ frames := 6, cells := 1, slots := 12, locals := 150 }) (gP X F V (Z) [.ref wa, .int (zI (kd : Int)), .int (zI (k9 : Int)), .ref (ra on), .int (zI (pp : Int)), .int (zI (qq : Int)), .int (zI (oI an))]) (gQi X (fun u G U ws => gLe F G ∧ u = zI (wM w : Int) ∧ ∃ ma9 : Nat → Nat, xWd X G U 4 (wMake w (kd, k9, on, pp, qq, an)) wa rv rk st ra la ma9 ∧ vxB 4 V U ∧ (∀ m, m < wM w → ma9 m = ma m) ∧ Z = ws)) 1 12 (gA X) := by
  refine Met.g (by decide) (Nat.le_of_ble_eq_true rfl) ?_
  intro p e s m below meth c ls hx hb hr hts hown hlocks hml hin hG hl
  have hl : lv_has ls 7 [(0, .ref wa), (1, .int (zI (kd : Int))), (2, .int (zI (k9 : Int))), (3, .ref (ra on)), (4, .int (zI (pp : Int))), (5, .int (zI (qq : Int))), (6, .int (zI (oI an)))] := hl
  have hMM := hK.m
  obtain ⟨hw0, ⟨fR, hw1, hwR⟩, ⟨fM, hw2, hwM⟩, ⟨fS, hw3, hwS⟩, hR, hMk⟩ := hW
  have hw1 : V 5 = some (rv, aR (gT X 7) 16 fR) := hw1
  have hw2 : V 6 = some (rk, aR (gT X 8) 16 fM) := hw2
  have hw3 : V 7 = some (st, aI (gT X 5) 16 fS) := hw3
  have hwE : V 4 = some (wa, xwE w rv rk st) := hw0
  refine lv_aload_n hx hb dX2_make_0 rfl (lv_at hl 0 rfl) ?_
  refine g_get (ci := 2) hx hb hts in_X2 hown hG (hG.vo hw0) rfl 7 (Nat.le_of_ble_eq_true rfl) (hts _ q350) (fun _ h9 => h9) rfl dX2_make_1 ?_
  refine lv_aload_n hx hb dX2_make_4 rfl (lv_at hl 0 rfl) ?_
  refine g_get (ci := 2) hx hb hts in_X2 hown hG (hG.vo hw0) rfl 1 (Nat.le_of_ble_eq_true rfl) (hts _ q335) (fun _ h9 => h9) rfl dX2_make_5 ?_
  refine lv_iload_n hx hb dX2_make_8 rfl (lv_at hl 1 rfl) ?_
  refine lv_aload_n hx hb dX2_make_9 rfl (lv_at hl 0 rfl) ?_
  refine g_get (ci := 2) hx hb hts in_X2 hown hG (hG.vo hw0) rfl 1 (Nat.le_of_ble_eq_true rfl) (hts _ q335) (fun _ h9 => h9) rfl dX2_make_10 ?_
  refine lv_iload_n hx hb dX2_make_13 rfl (lv_at hl 2 rfl) ?_
  refine lv_aload_n hx hb dX2_make_14 rfl (lv_at hl 3 rfl) ?_
  refine lv_iload hx hb dX2_make_15 (lv_at hl 4 rfl) ?_
  refine lv_iload hx hb dX2_make_17 (lv_at hl 5 rfl) ?_
  refine lv_iload hx hb dX2_make_19 (lv_at hl 6 rfl) ?_
  refine g_cr (va_runS (As := [.int (zI (kd : Int)), .int (zI (wM w : Int)), .int (zI (k9 : Int)), .ref (ra on), .int (zI (pp : Int)), .int (zI (qq : Int)), .int (zI (oI an))]) (rest := [.int (zI (wM w : Int)), .ref rk]) ⟨hx, hb, hml, hown, hts⟩ (metX0_ofKind hkd) (va_cwS 7 hts (lw_S q2051 q2052 q87 q2053) rfl rfl rfl (by decide +kernel) ⟨Nat.le_of_ble_eq_true rfl, Nat.le_of_ble_eq_true rfl⟩) (g_preS hG) rfl rfl hl.1 rfl (lv_room (Nat.le_of_ble_eq_true rfl)) dX2_make_21 ⟨Nat.le_of_ble_eq_true rfl, Nat.le_of_ble_eq_true rfl⟩) hG (fun rm F_1 V_2 ws_ H locs hp hG => ?_)
  obtain ⟨rfl, rfl, rfl⟩ := hp
  have hG : gW X F V ((rm, oB (14 + kd) [.int (zI (wM w : Int)), .int (zI (k9 : Int)), .ref (ra on), .int (zI (pp : Int)), .int (zI (qq : Int)), .int (zI (oI an))]) :: Z) s H locs := hG
  obtain ⟨G1, hle_G1, hrm, hG⟩ := hG.freeze
  have hG : gW X G1 V (Z) s _ _ := hG
  refine g_aastV hx hb hG hw2 8 rfl (rm_recv hG hkd hrm) (rm_asg hG hkd) cls_ex (wM w) ⟨rfl, by omega, by omega⟩ dX2_make_24 (fun H locs (hG : gW X G1 (va_up V 6 (some (rk, aR (gT X 8) 16 (va_up fM (wM w) (some rm))))) (Z) s H locs) => ?_)
  have hw1 : (va_up V 6 (some (rk, aR (gT X 8) 16 (va_up fM (wM w) (some rm))))) 5 = some (rv, aR (gT X 7) 16 fR) := (vun (by decide)).trans hw1
  have hw2 : (va_up V 6 (some (rk, aR (gT X 8) 16 (va_up fM (wM w) (some rm))))) 6 = some (rk, aR (gT X 8) 16 (va_up fM (wM w) (some rm))) := vus
  have hw3 : (va_up V 6 (some (rk, aR (gT X 8) 16 (va_up fM (wM w) (some rm))))) 7 = some (st, aI (gT X 5) 16 fS) := (vun (by decide)).trans hw3
  have hw0 : (va_up V 6 (some (rk, aR (gT X 8) 16 (va_up fM (wM w) (some rm))))) 4 = some (wa, oB 2 [.int (zI (wN w : Int)), .int (zI (wM w : Int)), .int (zI (wRun w : Int)), .int (zI (wNeed w : Int)), .int (zI (wMar w : Int)), .int (wSeed w), .ref rv, .ref rk, .ref st]) := (vun (by decide)).trans hw0
  refine lv_aload_n hx hb dX2_make_25 rfl (lv_at hl 0 rfl) ?_
  refine g_get (ci := 2) hx hb hts in_X2 hown hG (hG.vo hw0) rfl 8 (Nat.le_of_ble_eq_true rfl) (hts _ q352) (fun _ h9 => h9) rfl dX2_make_26 ?_
  refine lv_aload_n hx hb dX2_make_29 rfl (lv_at hl 0 rfl) ?_
  refine g_get (ci := 2) hx hb hts in_X2 hown hG (hG.vo hw0) rfl 1 (Nat.le_of_ble_eq_true rfl) (hts _ q335) (fun _ h9 => h9) rfl dX2_make_30 ?_
  refine lv_iconst (v := zI 0) hx hb dX2_make_33 (by decide +kernel) ?_
  refine g_zastV hx hb hG hw3 (wM w) ⟨rfl, by omega, by omega⟩ (y := (zI 0)) rfl dX2_make_34 (fun H locs (hG : gW X G1 (va_up (va_up V 6 (some (rk, aR (gT X 8) 16 (va_up fM (wM w) (some rm))))) 7 (some (st, aI (gT X 5) 16 (upd fS (wM w) (zI 0))))) (Z) s H locs) => ?_)
  have hw1 : (va_up (va_up V 6 (some (rk, aR (gT X 8) 16 (va_up fM (wM w) (some rm))))) 7 (some (st, aI (gT X 5) 16 (upd fS (wM w) (zI 0))))) 5 = some (rv, aR (gT X 7) 16 fR) := (vun (by decide)).trans hw1
  have hw2 : (va_up (va_up V 6 (some (rk, aR (gT X 8) 16 (va_up fM (wM w) (some rm))))) 7 (some (st, aI (gT X 5) 16 (upd fS (wM w) (zI 0))))) 6 = some (rk, aR (gT X 8) 16 (va_up fM (wM w) (some rm))) := (vun (by decide)).trans hw2
  have hw3 : (va_up (va_up V 6 (some (rk, aR (gT X 8) 16 (va_up fM (wM w) (some rm))))) 7 (some (st, aI (gT X 5) 16 (upd fS (wM w) (zI 0))))) 7 = some (st, aI (gT X 5) 16 (upd fS (wM w) (zI 0))) := vus
  have hw0 : (va_up (va_up V 6 (some (rk, aR (gT X 8) 16 (va_up fM (wM w) (some rm))))) 7 (some (st, aI (gT X 5) 16 (upd fS (wM w) (zI 0))))) 4 = some (wa, oB 2 [.int (zI (wN w : Int)), .int (zI (wM w : Int)), .int (zI (wRun w : Int)), .int (zI (wNeed w : Int)), .int (zI (wMar w : Int)), .int (wSeed w), .ref rv, .ref rk, .ref st]) := (vun (by decide)).trans hw0
  refine lv_aload_n hx hb dX2_make_35 rfl (lv_at hl 0 rfl) ?_
  refine lv_dup hx hb dX2_make_36 rfl ?_
  refine g_get (ci := 2) hx hb hts in_X2 hown hG (hG.vo hw0) rfl 1 (Nat.le_of_ble_eq_true rfl) (hts _ q335) (fun _ h9 => h9) rfl dX2_make_37 ?_
  refine lv_dup_x1 hx hb dX2_make_40 rfl rfl ?_
  refine lv_iconst (v := zI 1) hx hb dX2_make_41 (by decide +kernel) ?_
  refine g_iadd hx hb dX2_make_42 ?_
  refine g_putV (ci := 2) hx hb hts in_X2 tyX2 tyX2_ok nmX2 hown hG hw0 rfl 1 (Nat.le_of_ble_eq_true rfl) (hts _ q335) (fun _ h9 => h9) rfl (tyX2_ok 1 (Nat.le_of_ble_eq_true rfl)) rfl rfl (Nat.le_of_ble_eq_true rfl) dX2_make_43 (fun H locs (hG : gW X G1 (va_up (va_up (va_up V 6 (some (rk, aR (gT X 8) 16 (va_up fM (wM w) (some rm))))) 7 (some (st, aI (gT X 5) 16 (upd fS (wM w) (zI 0))))) 4 (some (wa, oB 2 [.int (zI (wN w : Int)), .int (zI ((wM w : Int) + 1)), .int (zI (wRun w : Int)), .int (zI (wNeed w : Int)), .int (zI (wMar w : Int)), .int (wSeed w), .ref rv, .ref rk, .ref st]))) (Z) s H locs) => ?_)
  have hw1 : (va_up (va_up (va_up V 6 (some (rk, aR (gT X 8) 16 (va_up fM (wM w) (some rm))))) 7 (some (st, aI (gT X 5) 16 (upd fS (wM w) (zI 0))))) 4 (some (wa, oB 2 [.int (zI (wN w : Int)), .int (zI ((wM w : Int) + 1)), .int (zI (wRun w : Int)), .int (zI (wNeed w : Int)), .int (zI (wMar w : Int)), .int (wSeed w), .ref rv, .ref rk, .ref st]))) 5 = some (rv, aR (gT X 7) 16 fR) := (vun (by decide)).trans hw1
  have hw2 : (va_up (va_up (va_up V 6 (some (rk, aR (gT X 8) 16 (va_up fM (wM w) (some rm))))) 7 (some (st, aI (gT X 5) 16 (upd fS (wM w) (zI 0))))) 4 (some (wa, oB 2 [.int (zI (wN w : Int)), .int (zI ((wM w : Int) + 1)), .int (zI (wRun w : Int)), .int (zI (wNeed w : Int)), .int (zI (wMar w : Int)), .int (wSeed w), .ref rv, .ref rk, .ref st]))) 6 = some (rk, aR (gT X 8) 16 (va_up fM (wM w) (some rm))) := (vun (by decide)).trans hw2
  have hw3 : (va_up (va_up (va_up V 6 (some (rk, aR (gT X 8) 16 (va_up fM (wM w) (some rm))))) 7 (some (st, aI (gT X 5) 16 (upd fS (wM w) (zI 0))))) 4 (some (wa, oB 2 [.int (zI (wN w : Int)), .int (zI ((wM w : Int) + 1)), .int (zI (wRun w : Int)), .int (zI (wNeed w : Int)), .int (zI (wMar w : Int)), .int (wSeed w), .ref rv, .ref rk, .ref st]))) 7 = some (st, aI (gT X 5) 16 (upd fS (wM w) (zI 0))) := (vun (by decide)).trans hw3
  have hw0 : (va_up (va_up (va_up V 6 (some (rk, aR (gT X 8) 16 (va_up fM (wM w) (some rm))))) 7 (some (st, aI (gT X 5) 16 (upd fS (wM w) (zI 0))))) 4 (some (wa, oB 2 [.int (zI (wN w : Int)), .int (zI ((wM w : Int) + 1)), .int (zI (wRun w : Int)), .int (zI (wNeed w : Int)), .int (zI (wMar w : Int)), .int (wSeed w), .ref rv, .ref rk, .ref st]))) 4 = some (wa, oB 2 [.int (zI (wN w : Int)), .int (zI ((wM w : Int) + 1)), .int (zI (wRun w : Int)), .int (zI (wNeed w : Int)), .int (zI (wMar w : Int)), .int (wSeed w), .ref rv, .ref rk, .ref st]) := vus
  exact g_iret hx hb hr hlocks hG (⟨hle_G1, rfl, va_up ma (wM w) rm, ⟨hw0, ⟨fR, hw1, hwR⟩, ⟨_, hw2, fun m hm => by (have hm : m < wM w + 1 := hm); by_cases e : m = wM w; (rw [e, va_up_self, va_up_self]); (rw [va_up_ne _ _ e, va_up_ne _ _ e]; exact hwM m (by omega))⟩, ⟨_, hw3, fun m hm => by (have hm : m < wM w + 1 := hm); show _ = zI (bI (va_up (wSt w) (wM w) false m)); by_cases e : m = wM w; (subst e; rw [va_up_self]; unfold upd; rw [if_pos rfl]; rfl); (rw [va_up_ne _ _ e]; unfold upd; rw [if_neg e]; exact hwS m (by omega))⟩, hR.mono hle_G1, fun m hm => by (have hm : m < wM w + 1 := hm); show isRmk G1 ra (va_up ma (wM w) rm m) (rKind (va_up (wRk w) (wM w) _ m)) m (va_up (wRk w) (wM w) _ m); by_cases e : m = wM w; (subst e; rw [va_up_self, va_up_self]; exact hrm); (rw [va_up_ne _ _ e, va_up_ne _ _ e]; exact (hMk m (by omega)).mono hle_G1)⟩, ((vxB.rf.up (by omega)).up (by omega)).up (by omega), fun m hm => va_up_ne _ _ (by omega), rfl⟩) ⟨Nat.le_of_ble_eq_true rfl, Nat.le_of_ble_eq_true rfl⟩ dX2_make_46

set_option maxHeartbeats 4000000 in
theorem metX0_remark {l : Launch} {X : gX} {F : gF} {V : gV} {Z : va_W} {x sa rf tr tb kl wa rv rk st : Nat} {sh ra la ma : Nat → Nat} {im : Option Nat} {a : aS} (hS : xS X F V x a sa rf tr tb kl wa rv rk st sh ra la ma im) (hA : aOK a) (hst : l.stackTraces = false) {kk k v i j an : Int} (hrkk : (-2147483648 ≤ kk ∧ kk < 2147483648)) (hrk : (-2147483648 ≤ k ∧ k < 2147483648)) (hrv : (-2147483648 ≤ v ∧ v < 2147483648)) (hri : (-2147483648 ≤ i ∧ i < 2147483648)) (hrj : (-2147483648 ≤ j ∧ j < 2147483648)) (hran : (-2147483648 ≤ an ∧ an < 2147483648)) : vx_Met l yX0_remark (wsW_ yX0_remark cX0_remark 8 (some FieldType.int) [(0, 131, 132, 21)]) ({ frames := 7, cells := 8, slots := 400, locals := 176 }) (gP X F V (Z) [.ref x, .int (zI kk), .int (zI k), .int (zI v), .int (zI i), .int (zI j), .int (zI an)]) (gQi X (fun u G U ws => gLe F G ∧ u = zI (opRemark a kk k v i j an).1 ∧ xX X G U x (opRemark a kk k v i j an).2 ∧ Z = ws)) (gXc X (fun _ _ _ _ _ => False)) 8 400 (gA X) := by
  refine vx_Met.gH (by decide) (Nat.le_of_ble_eq_true rfl) ?_
  intro p e s m below meth c ls hx hb hr hts hown hlocks hml hin htab hG hl
  have hl : lv_has ls 8 [(0, .ref x), (1, .int (zI kk)), (2, .int (zI k)), (3, .int (zI v)), (4, .int (zI i)), (5, .int (zI j)), (6, .int (zI an))] := hl
  have hSA := hS
  obtain ⟨hx0, ⟨fs9, hx1, hsh⟩, ⟨gr9, hx2, hgr⟩, hx3, hx4, hW, hx6, hx7⟩ := hSA
  have hSA := hS
  have hK := hA.w
  have hNN := hK.n
  have hMM := hK.m
  obtain ⟨hw0, ⟨fR, hw1, hwR⟩, ⟨fM, hw2, hwM⟩, ⟨fS, hw3, hwS⟩, hR, hMk⟩ := id hW
  have hw0 : V 4 = some (wa, oB 2 [.int (zI (wN (aWd a) : Int)), .int (zI (wM (aWd a) : Int)), .int (zI (wRun (aWd a) : Int)), .int (zI (wNeed (aWd a) : Int)), .int (zI (wMar (aWd a) : Int)), .int (wSeed (aWd a)), .ref rv, .ref rk, .ref st]) := hw0
  have hw1 : V 5 = some (rv, aR (gT X 7) 16 fR) := hw1
  have hw2 : V 6 = some (rk, aR (gT X 8) 16 fM) := hw2
  have hw3 : V 7 = some (st, aI (gT X 5) 16 fS) := hw3
  refine lv_iload_n hx hb dX0_remark_0 rfl (lv_at hl 1 rfl) ?_
  refine g_i2l hx hb dX0_remark_1 (by omega) ?_
  refine lv_lconst (v := zL 0) hx hb dX0_remark_2 (by decide +kernel) ?_
  refine lv_ldc2 (v := 6) hx hb hown (hts _ q718) dX0_remark_3 ?_
  refine g_topv (y := .long (zL 6)) (congrArg Value.long (by decide +kernel)) ?_
  by_cases hnkk : 0 ≤ kk ∧ kk ≤ 6
  · refine g_ci (va_runS (As := [.long (zL kk), .long (zL 0), .long (zL 6)]) (rest := []) ⟨hx, hb, hml, hown, hts⟩ (metX0_in (a9 := kk) (b9 := 0) (c9 := 6) (by omega)) (va_cwS 3 hts (lw_S q524 q525 q87 q526) rfl rfl rfl (by decide +kernel) ⟨Nat.le_of_ble_eq_true rfl, Nat.le_of_ble_eq_true rfl⟩) (g_preS hG) rfl rfl hl.1 rfl (lv_room (Nat.le_of_ble_eq_true rfl)) dX0_remark_6 ⟨by show _ ≤ 8; omega, by show _ ≤ 400; omega⟩) hG (fun r_1 F_2 V_3 ws_ H locs hp hG => ?_)
    obtain ⟨rfl, rfl, rfl, rfl⟩ := hp
    have hG : gW X F V (Z) s H locs := hG
    refine g_topz (y := 1) (by rw [decide_eq_true (by omega)]; rfl) ?_
    refine lv_iconst (v := zI (-1)) hx hb dX0_remark_9 (by decide +kernel) ?_
    refine g_cv (va_runS (As := [.int (zI 1), .int (zI (-1))]) (rest := []) ⟨hx, hb, hml, hown, hts⟩ (metX0_need_t (b := 1) (by decide)) (va_cwS 2 hts (lw_S q520 q521 q87 q522) rfl rfl rfl (by decide +kernel) ⟨Nat.le_of_ble_eq_true rfl, Nat.le_of_ble_eq_true rfl⟩) (g_preS hG) rfl rfl hl.1 rfl (lv_room (Nat.le_of_ble_eq_true rfl)) dX0_remark_10 ⟨by show _ ≤ 8; omega, by show _ ≤ 400; omega⟩) hG (fun F_5 V_6 ws_ H locs hp hG => ?_)
    obtain ⟨rfl, rfl, rfl⟩ := hp
    have hG : gW X F V (Z) s H locs := hG
    obtain ⟨kd1, rfl⟩ : ∃ z : Nat, kk = (z : Int) := ⟨kk.toNat, by omega⟩
    refine lv_aload_n hx hb dX0_remark_13 rfl (lv_at hl 0 rfl) ?_
    refine lv_iload_n hx hb dX0_remark_14 rfl (lv_at hl 3 rfl) ?_
    by_cases hcv : 0 ≤ v ∧ v < wN (aWd a)
    · obtain ⟨v1, rfl⟩ : ∃ z : Nat, v = (z : Int) := ⟨v.toNat, by omega⟩
      refine g_cr (va_runV (As := [.int (zI (v1 : Int))]) (rest := []) ⟨hx, hb, hml, hown, hts⟩ (metX0_revision_t (r := v1) hS hA (by omega)) (cwV 1 hts (lw_V q737 q739 qs4 q87 q740) rfl rfl rfl (by decide +kernel) ⟨Nat.le_of_ble_eq_true rfl, Nat.le_of_ble_eq_true rfl⟩) (g_preV hG (g_recv hG (hG.vo hx0) (ci := 0) rfl)) rfl rfl hl.1 rfl (lv_room (Nat.le_of_ble_eq_true rfl)) dX0_remark_15 ⟨by show _ ≤ 8; omega, by show _ ≤ 400; omega⟩) hG (fun r_7 F_8 V_9 ws_ H locs hp hG => ?_)
      obtain ⟨rfl, rfl, rfl, rfl⟩ := hp
      have hG : gW X F V (Z) s H locs := hG
      have hlnv1 : aLn a ((v1 : Nat) : Int) = ((wTx (aWd a) v1).length : Nat) := rfl
      have h24v1 := (hK.tx (r := v1) (by omega)).1
      rcases (show an = -1 ∨ (0 ≤ an ∧ an < wM (aWd a)) ∨ ¬ (an = -1 ∨ (0 ≤ an ∧ an < wM (aWd a))) by omega) with hq | hq | hq
      · have hs_10 : -1 = an := by omega
        subst hs_10
        refine lv_astore (lv' := [(7, .ref (ra v1)), (0, .ref x), (1, .int (zI (kd1 : Int))), (2, .int (zI k)), (3, .int (zI (v1 : Int))), (4, .int (zI i)), (5, .int (zI j)), (6, .int (zI (-1)))]) hx hb dX0_remark_18 hl (by decide) rfl (fun ls hl => ?_)
        refine lv_iload hx hb dX0_remark_20 (lv_at hl 7 rfl) ?_
        refine lv_iconst (v := zI (-1)) hx hb dX0_remark_22 (by decide +kernel) ?_
        refine g_ceq (tgt := 38) hx hb dX0_remark_23 (by decide) (by omega) (fun hq => ?_) (fun hq => ?_)
        · refine lv_iconst (v := zI 1) hx hb dX0_remark_38 (by decide +kernel) ?_
          refine lv_goto (tgt := 43) hx hb dX0_remark_39 (by decide) ?_
          refine lv_iconst (v := zI (-1)) hx hb dX0_remark_43 (by decide +kernel) ?_
          refine g_cv (va_runS (As := [.int (zI 1), .int (zI (-1))]) (rest := []) ⟨hx, hb, hml, hown, hts⟩ (metX0_need_t (b := 1) (by decide)) (va_cwS 2 hts (lw_S q520 q521 q87 q522) rfl rfl rfl (by decide +kernel) ⟨Nat.le_of_ble_eq_true rfl, Nat.le_of_ble_eq_true rfl⟩) (g_preS hG) rfl rfl hl.1 rfl (lv_room (Nat.le_of_ble_eq_true rfl)) dX0_remark_44 ⟨by show _ ≤ 8; omega, by show _ ≤ 400; omega⟩) hG (fun F_12 V_13 ws_ H locs hp hG => ?_)
          obtain ⟨rfl, rfl, rfl⟩ := hp
          have hG : gW X F V (Z) s H locs := hG
          refine lv_aload hx hb dX0_remark_47 (lv_at hl 0 rfl) ?_
          refine lv_iload hx hb dX0_remark_49 (lv_at hl 5 rfl) ?_
          by_cases hci : 0 ≤ i ∧ i < ((wTx (aWd a) v1).length : Int)
          · refine g_cv (va_runS (As := [.ref (ra v1), .int (zI i)]) (rest := []) ⟨hx, hb, hml, hown, hts⟩ (metX0_mustLine_t (hR v1 (by omega)).1 (hR v1 (by omega)).2 (by omega) (by omega)) (va_cwS 2 hts (lw_S q1751 q1752 q87 q1753) rfl rfl rfl (by decide +kernel) ⟨Nat.le_of_ble_eq_true rfl, Nat.le_of_ble_eq_true rfl⟩) (g_preS hG) rfl rfl hl.1 rfl (lv_room (Nat.le_of_ble_eq_true rfl)) dX0_remark_51 ⟨by show _ ≤ 8; omega, by show _ ≤ 400; omega⟩) hG (fun F_15 V_16 ws_ H locs hp hG => ?_)
            obtain ⟨rfl, rfl, rfl⟩ := hp
            have hG : gW X F V (Z) s H locs := hG
            obtain ⟨i1, rfl⟩ : ∃ z : Nat, i = (z : Int) := ⟨i.toNat, by omega⟩
            refine lv_aload hx hb dX0_remark_54 (lv_at hl 0 rfl) ?_
            refine lv_iload hx hb dX0_remark_56 (lv_at hl 6 rfl) ?_
            by_cases hcj : 0 ≤ j ∧ j < ((wTx (aWd a) v1).length : Int)
            · refine g_cv (va_runS (As := [.ref (ra v1), .int (zI j)]) (rest := []) ⟨hx, hb, hml, hown, hts⟩ (metX0_mustLine_t (hR v1 (by omega)).1 (hR v1 (by omega)).2 (by omega) (by omega)) (va_cwS 2 hts (lw_S q1751 q1752 q87 q1753) rfl rfl rfl (by decide +kernel) ⟨Nat.le_of_ble_eq_true rfl, Nat.le_of_ble_eq_true rfl⟩) (g_preS hG) rfl rfl hl.1 rfl (lv_room (Nat.le_of_ble_eq_true rfl)) dX0_remark_58 ⟨by show _ ≤ 8; omega, by show _ ≤ 400; omega⟩) hG (fun F_18 V_19 ws_ H locs hp hG => ?_)
              obtain ⟨rfl, rfl, rfl⟩ := hp
              have hG : gW X F V (Z) s H locs := hG
              obtain ⟨j1, rfl⟩ : ∃ z : Nat, j = (z : Int) := ⟨j.toNat, by omega⟩
              refine lv_iload hx hb dX0_remark_61 (lv_at hl 5 rfl) ?_
              refine lv_iload hx hb dX0_remark_63 (lv_at hl 6 rfl) ?_
              refine g_cgt (tgt := 72) hx hb dX0_remark_65 (by decide) (by omega) (fun h5 => ?_) (fun h5 => ?_)
              · refine lv_iconst (v := zI 0) hx hb dX0_remark_72 (by decide +kernel) ?_
                refine lv_bipush (v := zI (-5)) hx hb dX0_remark_73 (by decide +kernel) ?_
                refine g_xv (vx_runS (As := [.int (zI 0), .int (zI (-5))]) (rest := []) ⟨hx, hb, hml, hown, hts⟩ (metX0_need_f (k := 5)) (va_cwS 2 hts (lw_S q520 q521 q87 q522) rfl rfl rfl (by decide +kernel) ⟨Nat.le_of_ble_eq_true rfl, Nat.le_of_ble_eq_true rfl⟩) (g_preS hG) rfl rfl hl.1 rfl (lv_room (Nat.le_of_ble_eq_true rfl)) dX0_remark_75 ⟨by show _ ≤ 8; omega, by show _ ≤ 400; omega⟩) hG (fun E9 ce9 q9 Fx_23 Vx_24 ws_ H locs hpx hG hce => ?_) (fun F_21 V_22 ws_ H locs hp hG => ?_)
                · obtain ⟨rfl, hle_Fx_23, hq9, rfl, rfl⟩ := hpx
                  have hG : gW X Fx_23 V (Z) s H locs := hG
                  refine g_catch (name := "LineRemarks$Refused") hown htab [] ⟨0, 131, 132, 21⟩ [] rfl (fun z9 hz9 => absurd hz9 List.not_mem_nil) (by decide) (by decide) (hts _ q410) (hG.1.2.1.1 _ qn498) hce ?_
                  refine lv_astore (lv' := [(7, .ref q9), (0, .ref x), (1, .int (zI (kd1 : Int))), (2, .int (zI k)), (3, .int (zI (v1 : Int))), (4, .int (zI (i1 : Int))), (5, .int (zI (j1 : Int))), (6, .int (zI (-1)))]) hx hb dX0_remark_132 hl (by decide) rfl (fun ls hl => ?_)
                  refine lv_aload_n hx hb dX0_remark_134 rfl (lv_at hl 1 rfl) ?_
                  refine lv_aload hx hb dX0_remark_135 (lv_at hl 0 rfl) ?_
                  refine g_ci (va_runV (As := [.ref q9]) (rest := []) ⟨hx, hb, hml, hown, hts⟩ (metX0_refused (k := 5) (hS.mono hle_Fx_23) hA hq9 (by decide)) (cwV 1 hts (lw_V q589 q591 qs2 q87 q592) rfl rfl rfl (by decide +kernel) ⟨Nat.le_of_ble_eq_true rfl, Nat.le_of_ble_eq_true rfl⟩) (g_preV hG (g_recv hG (hG.vo hx0) (ci := 0) rfl)) rfl rfl hl.1 rfl (lv_room (Nat.le_of_ble_eq_true rfl)) dX0_remark_137 ⟨by show _ ≤ 8; omega, by show _ ≤ 400; omega⟩) hG (fun r_25 F_26 V_27 ws_ H locs hp hG => ?_)
                  obtain ⟨rfl, rfl, hS9, rfl⟩ := hp
                  have hG : gW X Fx_23 V_27 (Z) s H locs := hG
                  refine vx_ret ?_
                  exact g_iret hx hb hr hlocks hG (by have e9 : opRemark a (kd1 : Int) k (v1 : Int) (i1 : Int) (j1 : Int) (-1) = aNoR a 5 := (by unfold opRemark; rw [if_neg (by omega), if_pos (by omega)]; first | done | rfl); rw [e9]; exact ⟨hle_Fx_23, rfl, hS9.ex, rfl⟩) ⟨by show _ ≤ 8; omega, by show _ ≤ 400; omega⟩ dX0_remark_140
                exact hp.elim
              · refine lv_iconst (v := zI 1) hx hb dX0_remark_68 (by decide +kernel) ?_
                refine lv_goto (tgt := 73) hx hb dX0_remark_69 (by decide) ?_
                refine lv_bipush (v := zI (-5)) hx hb dX0_remark_73 (by decide +kernel) ?_
                refine g_cv (va_runS (As := [.int (zI 1), .int (zI (-5))]) (rest := []) ⟨hx, hb, hml, hown, hts⟩ (metX0_need_t (b := 1) (by decide)) (va_cwS 2 hts (lw_S q520 q521 q87 q522) rfl rfl rfl (by decide +kernel) ⟨Nat.le_of_ble_eq_true rfl, Nat.le_of_ble_eq_true rfl⟩) (g_preS hG) rfl rfl hl.1 rfl (lv_room (Nat.le_of_ble_eq_true rfl)) dX0_remark_75 ⟨by show _ ≤ 8; omega, by show _ ≤ 400; omega⟩) hG (fun F_29 V_30 ws_ H locs hp hG => ?_)
                obtain ⟨rfl, rfl, rfl⟩ := hp
                have hG : gW X F V (Z) s H locs := hG
                by_cases hnk : 0 ≤ k ∧ k ≤ 9
                · refine lv_iload_n hx hb dX0_remark_78 rfl (lv_at hl 3 rfl) ?_
                  refine g_i2l hx hb dX0_remark_79 (by omega) ?_
                  refine lv_lconst (v := zL 0) hx hb dX0_remark_80 (by decide +kernel) ?_
                  refine lv_ldc2 (v := 9) hx hb hown (hts _ q1773) dX0_remark_81 ?_
                  refine g_topv (y := .long (zL 9)) (congrArg Value.long (by decide +kernel)) ?_
                  refine g_ci (va_runS (As := [.long (zL k), .long (zL 0), .long (zL 9)]) (rest := []) ⟨hx, hb, hml, hown, hts⟩ (metX0_in (a9 := k) (b9 := 0) (c9 := 9) (by omega)) (va_cwS 3 hts (lw_S q524 q525 q87 q526) rfl rfl rfl (by decide +kernel) ⟨Nat.le_of_ble_eq_true rfl, Nat.le_of_ble_eq_true rfl⟩) (g_preS hG) rfl rfl hl.1 rfl (lv_room (Nat.le_of_ble_eq_true rfl)) dX0_remark_84 ⟨by show _ ≤ 8; omega, by show _ ≤ 400; omega⟩) hG (fun r_31 F_32 V_33 ws_ H locs hp hG => ?_)
                  obtain ⟨rfl, rfl, rfl, rfl⟩ := hp
                  have hG : gW X F V (Z) s H locs := hG
                  refine g_topz (y := 1) (by rw [decide_eq_true (by omega)]; rfl) ?_
                  refine lv_bipush (v := zI (-6)) hx hb dX0_remark_87 (by decide +kernel) ?_
                  refine g_cv (va_runS (As := [.int (zI 1), .int (zI (-6))]) (rest := []) ⟨hx, hb, hml, hown, hts⟩ (metX0_need_t (b := 1) (by decide)) (va_cwS 2 hts (lw_S q520 q521 q87 q522) rfl rfl rfl (by decide +kernel) ⟨Nat.le_of_ble_eq_true rfl, Nat.le_of_ble_eq_true rfl⟩) (g_preS hG) rfl rfl hl.1 rfl (lv_room (Nat.le_of_ble_eq_true rfl)) dX0_remark_89 ⟨by show _ ≤ 8; omega, by show _ ≤ 400; omega⟩) hG (fun F_35 V_36 ws_ H locs hp hG => ?_)
                  obtain ⟨rfl, rfl, rfl⟩ := hp
                  have hG : gW X F V (Z) s H locs := hG
                  refine lv_aload_n hx hb dX0_remark_92 rfl (lv_at hl 1 rfl) ?_
                  refine g_get (ci := 0) hx hb hts in_X0 hown hG (hG.vo hx0) rfl 4 (Nat.le_of_ble_eq_true rfl) (hts _ q388) (fun _ h9 => h9) rfl dX0_remark_93 ?_
                  refine g_get (ci := 2) hx hb hts in_X2 hown hG (hG.vo hw0) rfl 1 (Nat.le_of_ble_eq_true rfl) (hts _ q336) (fun _ h9 => h9) rfl dX0_remark_96 ?_
                  refine lv_bipush (v := zI 16) hx hb dX0_remark_99 (by decide +kernel) ?_
                  refine g_cge (tgt := 108) hx hb dX0_remark_101 (by decide) (by omega) (fun h6 => ?_) (fun h6 => ?_)
                  · refine lv_iconst (v := zI 0) hx hb dX0_remark_108 (by decide +kernel) ?_
                    refine lv_bipush (v := zI (-7)) hx hb dX0_remark_109 (by decide +kernel) ?_
                    refine g_xv (vx_runS (As := [.int (zI 0), .int (zI (-7))]) (rest := []) ⟨hx, hb, hml, hown, hts⟩ (metX0_need_f (k := 7)) (va_cwS 2 hts (lw_S q520 q521 q87 q522) rfl rfl rfl (by decide +kernel) ⟨Nat.le_of_ble_eq_true rfl, Nat.le_of_ble_eq_true rfl⟩) (g_preS hG) rfl rfl hl.1 rfl (lv_room (Nat.le_of_ble_eq_true rfl)) dX0_remark_111 ⟨by show _ ≤ 8; omega, by show _ ≤ 400; omega⟩) hG (fun E9 ce9 q9 Fx_40 Vx_41 ws_ H locs hpx hG hce => ?_) (fun F_38 V_39 ws_ H locs hp hG => ?_)
                    · obtain ⟨rfl, hle_Fx_40, hq9, rfl, rfl⟩ := hpx
                      have hG : gW X Fx_40 V (Z) s H locs := hG
                      refine g_catch (name := "LineRemarks$Refused") hown htab [] ⟨0, 131, 132, 21⟩ [] rfl (fun z9 hz9 => absurd hz9 List.not_mem_nil) (by decide) (by decide) (hts _ q410) (hG.1.2.1.1 _ qn498) hce ?_
                      refine lv_astore (lv' := [(7, .ref q9), (0, .ref x), (1, .int (zI (kd1 : Int))), (2, .int (zI k)), (3, .int (zI (v1 : Int))), (4, .int (zI (i1 : Int))), (5, .int (zI (j1 : Int))), (6, .int (zI (-1)))]) hx hb dX0_remark_132 hl (by decide) rfl (fun ls hl => ?_)
                      refine lv_aload_n hx hb dX0_remark_134 rfl (lv_at hl 1 rfl) ?_
                      refine lv_aload hx hb dX0_remark_135 (lv_at hl 0 rfl) ?_
                      refine g_ci (va_runV (As := [.ref q9]) (rest := []) ⟨hx, hb, hml, hown, hts⟩ (metX0_refused (k := 7) (hS.mono hle_Fx_40) hA hq9 (by decide)) (cwV 1 hts (lw_V q589 q591 qs2 q87 q592) rfl rfl rfl (by decide +kernel) ⟨Nat.le_of_ble_eq_true rfl, Nat.le_of_ble_eq_true rfl⟩) (g_preV hG (g_recv hG (hG.vo hx0) (ci := 0) rfl)) rfl rfl hl.1 rfl (lv_room (Nat.le_of_ble_eq_true rfl)) dX0_remark_137 ⟨by show _ ≤ 8; omega, by show _ ≤ 400; omega⟩) hG (fun r_42 F_43 V_44 ws_ H locs hp hG => ?_)
                      obtain ⟨rfl, rfl, hS9, rfl⟩ := hp
                      have hG : gW X Fx_40 V_44 (Z) s H locs := hG
                      refine vx_ret ?_
                      exact g_iret hx hb hr hlocks hG (by have e9 : opRemark a (kd1 : Int) k (v1 : Int) (i1 : Int) (j1 : Int) (-1) = aNoR a 7 := (by unfold opRemark; rw [if_neg (by omega), if_neg (by omega), if_neg (by omega), if_pos (by omega)]; first | done | rfl); rw [e9]; exact ⟨hle_Fx_40, rfl, hS9.ex, rfl⟩) ⟨by show _ ≤ 8; omega, by show _ ≤ 400; omega⟩ dX0_remark_140
                    exact hp.elim
                  · refine lv_iconst (v := zI 1) hx hb dX0_remark_104 (by decide +kernel) ?_
                    refine lv_goto (tgt := 109) hx hb dX0_remark_105 (by decide) ?_
                    refine lv_bipush (v := zI (-7)) hx hb dX0_remark_109 (by decide +kernel) ?_
                    refine g_cv (va_runS (As := [.int (zI 1), .int (zI (-7))]) (rest := []) ⟨hx, hb, hml, hown, hts⟩ (metX0_need_t (b := 1) (by decide)) (va_cwS 2 hts (lw_S q520 q521 q87 q522) rfl rfl rfl (by decide +kernel) ⟨Nat.le_of_ble_eq_true rfl, Nat.le_of_ble_eq_true rfl⟩) (g_preS hG) rfl rfl hl.1 rfl (lv_room (Nat.le_of_ble_eq_true rfl)) dX0_remark_111 ⟨by show _ ≤ 8; omega, by show _ ≤ 400; omega⟩) hG (fun F_46 V_47 ws_ H locs hp hG => ?_)
                    obtain ⟨rfl, rfl, rfl⟩ := hp
                    have hG : gW X F V (Z) s H locs := hG
                    obtain ⟨k1, rfl⟩ : ∃ z : Nat, k = (z : Int) := ⟨k.toNat, by omega⟩
                    refine lv_aload_n hx hb dX0_remark_114 rfl (lv_at hl 1 rfl) ?_
                    refine g_get (ci := 0) hx hb hts in_X0 hown hG (hG.vo hx0) rfl 4 (Nat.le_of_ble_eq_true rfl) (hts _ q388) (fun _ h9 => h9) rfl dX0_remark_115 ?_
                    refine lv_iload_n hx hb dX0_remark_118 rfl (lv_at hl 2 rfl) ?_
                    refine lv_iload_n hx hb dX0_remark_119 rfl (lv_at hl 3 rfl) ?_
                    refine lv_aload hx hb dX0_remark_120 (lv_at hl 0 rfl) ?_
                    refine lv_iload hx hb dX0_remark_122 (lv_at hl 5 rfl) ?_
                    refine lv_iload hx hb dX0_remark_124 (lv_at hl 6 rfl) ?_
                    refine lv_iload hx hb dX0_remark_126 (lv_at hl 7 rfl) ?_
                    refine g_ci (va_runV (As := [.int (zI (kd1 : Int)), .int (zI (k1 : Int)), .ref (ra v1), .int (zI (i1 : Int)), .int (zI (j1 : Int)), .int (zI (-1))]) (rest := []) ⟨hx, hb, hml, hown, hts⟩ (metX2_make_m (kd := kd1) (k9 := k1) (on := v1) (pp := i1) (qq := j1) (an := none) hW hK (by omega) (by omega)) (cwV 6 hts (lw_V q2047 q2048 q2049 q100 q2050) rfl rfl rfl (by decide +kernel) ⟨Nat.le_of_ble_eq_true rfl, Nat.le_of_ble_eq_true rfl⟩) (g_preV hG (g_recv hG (hG.vo hw0) (ci := 2) rfl)) rfl rfl hl.1 rfl (lv_room (Nat.le_of_ble_eq_true rfl)) dX0_remark_128 ⟨by show _ ≤ 8; omega, by show _ ≤ 400; omega⟩) hG (fun r_48 G1 V_49 ws_ H locs hp hG => ?_)
                    obtain ⟨hle_G1, rfl, ma9, hW9, hB9, hma9, rfl⟩ := hp
                    have hG : gW X G1 V_49 (Z) s H locs := hG
                    refine vx_ret ?_
                    exact g_iret hx hb hr hlocks hG (by have e9 : opRemark a (kd1 : Int) (k1 : Int) (v1 : Int) (i1 : Int) (j1 : Int) (-1) = (((wM (aWd a) : Nat) : Int), aSetW a (wMake (aWd a) (kd1, k1, v1, i1, j1, none))) := (by unfold opRemark; rw [if_neg (by omega), if_neg (by omega), if_neg (by omega), if_neg (by omega)]; first | done | exact congrArg (fun z => (((wM (aWd a) : Nat) : Int), aSetW a (wMake (aWd a) (kd1, k1, v1, i1, j1, z)))) (rfl)); rw [e9]; exact ⟨hle_G1, rfl, (((hS.mono hle_G1).setW hA (fun r9 h8 h9 => hB9 r9 (by omega)) hW9 hma9)).ex, rfl⟩) ⟨by show _ ≤ 8; omega, by show _ ≤ 400; omega⟩ dX0_remark_131
                · refine lv_iload_n hx hb dX0_remark_78 rfl (lv_at hl 3 rfl) ?_
                  refine g_i2l hx hb dX0_remark_79 (by omega) ?_
                  refine lv_lconst (v := zL 0) hx hb dX0_remark_80 (by decide +kernel) ?_
                  refine lv_ldc2 (v := 9) hx hb hown (hts _ q1773) dX0_remark_81 ?_
                  refine g_topv (y := .long (zL 9)) (congrArg Value.long (by decide +kernel)) ?_
                  refine g_ci (va_runS (As := [.long (zL k), .long (zL 0), .long (zL 9)]) (rest := []) ⟨hx, hb, hml, hown, hts⟩ (metX0_in (a9 := k) (b9 := 0) (c9 := 9) (by omega)) (va_cwS 3 hts (lw_S q524 q525 q87 q526) rfl rfl rfl (by decide +kernel) ⟨Nat.le_of_ble_eq_true rfl, Nat.le_of_ble_eq_true rfl⟩) (g_preS hG) rfl rfl hl.1 rfl (lv_room (Nat.le_of_ble_eq_true rfl)) dX0_remark_84 ⟨by show _ ≤ 8; omega, by show _ ≤ 400; omega⟩) hG (fun r_50 F_51 V_52 ws_ H locs hp hG => ?_)
                  obtain ⟨rfl, rfl, rfl, rfl⟩ := hp
                  have hG : gW X F V (Z) s H locs := hG
                  refine g_topz (y := 0) (by rw [decide_eq_false (by omega)]; rfl) ?_
                  refine lv_bipush (v := zI (-6)) hx hb dX0_remark_87 (by decide +kernel) ?_
                  refine g_xv (vx_runS (As := [.int (zI 0), .int (zI (-6))]) (rest := []) ⟨hx, hb, hml, hown, hts⟩ (metX0_need_f (k := 6)) (va_cwS 2 hts (lw_S q520 q521 q87 q522) rfl rfl rfl (by decide +kernel) ⟨Nat.le_of_ble_eq_true rfl, Nat.le_of_ble_eq_true rfl⟩) (g_preS hG) rfl rfl hl.1 rfl (lv_room (Nat.le_of_ble_eq_true rfl)) dX0_remark_89 ⟨by show _ ≤ 8; omega, by show _ ≤ 400; omega⟩) hG (fun E9 ce9 q9 Fx_56 Vx_57 ws_ H locs hpx hG hce => ?_) (fun F_54 V_55 ws_ H locs hp hG => ?_)
                  · obtain ⟨rfl, hle_Fx_56, hq9, rfl, rfl⟩ := hpx
                    have hG : gW X Fx_56 V (Z) s H locs := hG
                    refine g_catch (name := "LineRemarks$Refused") hown htab [] ⟨0, 131, 132, 21⟩ [] rfl (fun z9 hz9 => absurd hz9 List.not_mem_nil) (by decide) (by decide) (hts _ q410) (hG.1.2.1.1 _ qn498) hce ?_
                    refine lv_astore (lv' := [(7, .ref q9), (0, .ref x), (1, .int (zI (kd1 : Int))), (2, .int (zI k)), (3, .int (zI (v1 : Int))), (4, .int (zI (i1 : Int))), (5, .int (zI (j1 : Int))), (6, .int (zI (-1)))]) hx hb dX0_remark_132 hl (by decide) rfl (fun ls hl => ?_)
                    refine lv_aload_n hx hb dX0_remark_134 rfl (lv_at hl 1 rfl) ?_
                    refine lv_aload hx hb dX0_remark_135 (lv_at hl 0 rfl) ?_
                    refine g_ci (va_runV (As := [.ref q9]) (rest := []) ⟨hx, hb, hml, hown, hts⟩ (metX0_refused (k := 6) (hS.mono hle_Fx_56) hA hq9 (by decide)) (cwV 1 hts (lw_V q589 q591 qs2 q87 q592) rfl rfl rfl (by decide +kernel) ⟨Nat.le_of_ble_eq_true rfl, Nat.le_of_ble_eq_true rfl⟩) (g_preV hG (g_recv hG (hG.vo hx0) (ci := 0) rfl)) rfl rfl hl.1 rfl (lv_room (Nat.le_of_ble_eq_true rfl)) dX0_remark_137 ⟨by show _ ≤ 8; omega, by show _ ≤ 400; omega⟩) hG (fun r_58 F_59 V_60 ws_ H locs hp hG => ?_)
                    obtain ⟨rfl, rfl, hS9, rfl⟩ := hp
                    have hG : gW X Fx_56 V_60 (Z) s H locs := hG
                    refine vx_ret ?_
                    exact g_iret hx hb hr hlocks hG (by have e9 : opRemark a (kd1 : Int) k (v1 : Int) (i1 : Int) (j1 : Int) (-1) = aNoR a 6 := (by unfold opRemark; rw [if_neg (by omega), if_neg (by omega), if_pos (by omega)]; first | done | rfl); rw [e9]; exact ⟨hle_Fx_56, rfl, hS9.ex, rfl⟩) ⟨by show _ ≤ 8; omega, by show _ ≤ 400; omega⟩ dX0_remark_140
                  exact hp.elim
            · refine g_xv (vx_runS (As := [.ref (ra v1), .int (zI j)]) (rest := []) ⟨hx, hb, hml, hown, hts⟩ (metX0_mustLine_f (hR v1 (by omega)).1 (hR v1 (by omega)).2 (by omega) (by omega)) (va_cwS 2 hts (lw_S q1751 q1752 q87 q1753) rfl rfl rfl (by decide +kernel) ⟨Nat.le_of_ble_eq_true rfl, Nat.le_of_ble_eq_true rfl⟩) (g_preS hG) rfl rfl hl.1 rfl (lv_room (Nat.le_of_ble_eq_true rfl)) dX0_remark_58 ⟨by show _ ≤ 8; omega, by show _ ≤ 400; omega⟩) hG (fun E9 ce9 q9 Fx_64 Vx_65 ws_ H locs hpx hG hce => ?_) (fun F_62 V_63 ws_ H locs hp hG => ?_)
              · obtain ⟨rfl, hle_Fx_64, hq9, rfl, rfl⟩ := hpx
                have hG : gW X Fx_64 V (Z) s H locs := hG
                refine g_catch (name := "LineRemarks$Refused") hown htab [] ⟨0, 131, 132, 21⟩ [] rfl (fun z9 hz9 => absurd hz9 List.not_mem_nil) (by decide) (by decide) (hts _ q410) (hG.1.2.1.1 _ qn498) hce ?_
                refine lv_astore (lv' := [(7, .ref q9), (0, .ref x), (1, .int (zI (kd1 : Int))), (2, .int (zI k)), (3, .int (zI (v1 : Int))), (4, .int (zI (i1 : Int))), (5, .int (zI j)), (6, .int (zI (-1)))]) hx hb dX0_remark_132 hl (by decide) rfl (fun ls hl => ?_)
                refine lv_aload_n hx hb dX0_remark_134 rfl (lv_at hl 1 rfl) ?_
                refine lv_aload hx hb dX0_remark_135 (lv_at hl 0 rfl) ?_
                refine g_ci (va_runV (As := [.ref q9]) (rest := []) ⟨hx, hb, hml, hown, hts⟩ (metX0_refused (k := 5) (hS.mono hle_Fx_64) hA hq9 (by decide)) (cwV 1 hts (lw_V q589 q591 qs2 q87 q592) rfl rfl rfl (by decide +kernel) ⟨Nat.le_of_ble_eq_true rfl, Nat.le_of_ble_eq_true rfl⟩) (g_preV hG (g_recv hG (hG.vo hx0) (ci := 0) rfl)) rfl rfl hl.1 rfl (lv_room (Nat.le_of_ble_eq_true rfl)) dX0_remark_137 ⟨by show _ ≤ 8; omega, by show _ ≤ 400; omega⟩) hG (fun r_66 F_67 V_68 ws_ H locs hp hG => ?_)
                obtain ⟨rfl, rfl, hS9, rfl⟩ := hp
                have hG : gW X Fx_64 V_68 (Z) s H locs := hG
                refine vx_ret ?_
                exact g_iret hx hb hr hlocks hG (by have e9 : opRemark a (kd1 : Int) k (v1 : Int) (i1 : Int) j (-1) = aNoR a 5 := (by unfold opRemark; rw [if_neg (by omega), if_pos (by omega)]; first | done | rfl); rw [e9]; exact ⟨hle_Fx_64, rfl, hS9.ex, rfl⟩) ⟨by show _ ≤ 8; omega, by show _ ≤ 400; omega⟩ dX0_remark_140
              exact hp.elim
          · refine g_xv (vx_runS (As := [.ref (ra v1), .int (zI i)]) (rest := []) ⟨hx, hb, hml, hown, hts⟩ (metX0_mustLine_f (hR v1 (by omega)).1 (hR v1 (by omega)).2 (by omega) (by omega)) (va_cwS 2 hts (lw_S q1751 q1752 q87 q1753) rfl rfl rfl (by decide +kernel) ⟨Nat.le_of_ble_eq_true rfl, Nat.le_of_ble_eq_true rfl⟩) (g_preS hG) rfl rfl hl.1 rfl (lv_room (Nat.le_of_ble_eq_true rfl)) dX0_remark_51 ⟨by show _ ≤ 8; omega, by show _ ≤ 400; omega⟩) hG (fun E9 ce9 q9 Fx_72 Vx_73 ws_ H locs hpx hG hce => ?_) (fun F_70 V_71 ws_ H locs hp hG => ?_)
            · obtain ⟨rfl, hle_Fx_72, hq9, rfl, rfl⟩ := hpx
              have hG : gW X Fx_72 V (Z) s H locs := hG
              refine g_catch (name := "LineRemarks$Refused") hown htab [] ⟨0, 131, 132, 21⟩ [] rfl (fun z9 hz9 => absurd hz9 List.not_mem_nil) (by decide) (by decide) (hts _ q410) (hG.1.2.1.1 _ qn498) hce ?_
              refine lv_astore (lv' := [(7, .ref q9), (0, .ref x), (1, .int (zI (kd1 : Int))), (2, .int (zI k)), (3, .int (zI (v1 : Int))), (4, .int (zI i)), (5, .int (zI j)), (6, .int (zI (-1)))]) hx hb dX0_remark_132 hl (by decide) rfl (fun ls hl => ?_)
              refine lv_aload_n hx hb dX0_remark_134 rfl (lv_at hl 1 rfl) ?_
              refine lv_aload hx hb dX0_remark_135 (lv_at hl 0 rfl) ?_
              refine g_ci (va_runV (As := [.ref q9]) (rest := []) ⟨hx, hb, hml, hown, hts⟩ (metX0_refused (k := 5) (hS.mono hle_Fx_72) hA hq9 (by decide)) (cwV 1 hts (lw_V q589 q591 qs2 q87 q592) rfl rfl rfl (by decide +kernel) ⟨Nat.le_of_ble_eq_true rfl, Nat.le_of_ble_eq_true rfl⟩) (g_preV hG (g_recv hG (hG.vo hx0) (ci := 0) rfl)) rfl rfl hl.1 rfl (lv_room (Nat.le_of_ble_eq_true rfl)) dX0_remark_137 ⟨by show _ ≤ 8; omega, by show _ ≤ 400; omega⟩) hG (fun r_74 F_75 V_76 ws_ H locs hp hG => ?_)
              obtain ⟨rfl, rfl, hS9, rfl⟩ := hp
              have hG : gW X Fx_72 V_76 (Z) s H locs := hG
              refine vx_ret ?_
              exact g_iret hx hb hr hlocks hG (by have e9 : opRemark a (kd1 : Int) k (v1 : Int) i j (-1) = aNoR a 5 := (by unfold opRemark; rw [if_neg (by omega), if_pos (by omega)]; first | done | rfl); rw [e9]; exact ⟨hle_Fx_72, rfl, hS9.ex, rfl⟩) ⟨by show _ ≤ 8; omega, by show _ ≤ 400; omega⟩ dX0_remark_140
            exact hp.elim
        · exfalso; omega
      · obtain ⟨an1, rfl⟩ : ∃ z : Nat, an = (z : Int) := ⟨an.toNat, by omega⟩
        refine lv_astore (lv' := [(7, .ref (ra v1)), (0, .ref x), (1, .int (zI (kd1 : Int))), (2, .int (zI k)), (3, .int (zI (v1 : Int))), (4, .int (zI i)), (5, .int (zI j)), (6, .int (zI (an1 : Int)))]) hx hb dX0_remark_18 hl (by decide) rfl (fun ls hl => ?_)
        refine lv_iload hx hb dX0_remark_20 (lv_at hl 7 rfl) ?_
        refine lv_iconst (v := zI (-1)) hx hb dX0_remark_22 (by decide +kernel) ?_
        refine g_ceq (tgt := 38) hx hb dX0_remark_23 (by decide) (by omega) (fun h4 => ?_) (fun h4 => ?_)
        · exfalso; omega
        · refine lv_aload_n hx hb dX0_remark_26 rfl (lv_at hl 1 rfl) ?_
          refine g_get (ci := 0) hx hb hts in_X0 hown hG (hG.vo hx0) rfl 4 (Nat.le_of_ble_eq_true rfl) (hts _ q388) (fun _ h9 => h9) rfl dX0_remark_27 ?_
          refine lv_iload hx hb dX0_remark_30 (lv_at hl 7 rfl) ?_
          refine g_ci (va_runV (As := [.int (zI (an1 : Int))]) (rest := []) ⟨hx, hb, hml, hown, hts⟩ (metX2_isRemark hW hK (by omega)) (cwV 1 hts (lw_V q704 q705 q706 q100 q707) rfl rfl rfl (by decide +kernel) ⟨Nat.le_of_ble_eq_true rfl, Nat.le_of_ble_eq_true rfl⟩) (g_preV hG (g_recv hG (hG.vo hw0) (ci := 2) rfl)) rfl rfl hl.1 rfl (lv_room (Nat.le_of_ble_eq_true rfl)) dX0_remark_32 ⟨by show _ ≤ 8; omega, by show _ ≤ 400; omega⟩) hG (fun r_77 F_78 V_79 ws_ H locs hp hG => ?_)
          obtain ⟨rfl, rfl, rfl, rfl⟩ := hp
          have hG : gW X F V (Z) s H locs := hG
          refine g_topz (y := 1) (by rw [decide_eq_true (by omega)]; rfl) ?_
          refine g_eq (tgt := 42) hx hb dX0_remark_35 (by decide) (by decide) (fun hq => ?_) (fun hq => ?_)
          · exfalso; omega
          · refine lv_iconst (v := zI 1) hx hb dX0_remark_38 (by decide +kernel) ?_
            refine lv_goto (tgt := 43) hx hb dX0_remark_39 (by decide) ?_
            refine lv_iconst (v := zI (-1)) hx hb dX0_remark_43 (by decide +kernel) ?_
            refine g_cv (va_runS (As := [.int (zI 1), .int (zI (-1))]) (rest := []) ⟨hx, hb, hml, hown, hts⟩ (metX0_need_t (b := 1) (by decide)) (va_cwS 2 hts (lw_S q520 q521 q87 q522) rfl rfl rfl (by decide +kernel) ⟨Nat.le_of_ble_eq_true rfl, Nat.le_of_ble_eq_true rfl⟩) (g_preS hG) rfl rfl hl.1 rfl (lv_room (Nat.le_of_ble_eq_true rfl)) dX0_remark_44 ⟨by show _ ≤ 8; omega, by show _ ≤ 400; omega⟩) hG (fun F_81 V_82 ws_ H locs hp hG => ?_)
            obtain ⟨rfl, rfl, rfl⟩ := hp
            have hG : gW X F V (Z) s H locs := hG
            refine lv_aload hx hb dX0_remark_47 (lv_at hl 0 rfl) ?_
            refine lv_iload hx hb dX0_remark_49 (lv_at hl 5 rfl) ?_
            by_cases hci : 0 ≤ i ∧ i < ((wTx (aWd a) v1).length : Int)
            · refine g_cv (va_runS (As := [.ref (ra v1), .int (zI i)]) (rest := []) ⟨hx, hb, hml, hown, hts⟩ (metX0_mustLine_t (hR v1 (by omega)).1 (hR v1 (by omega)).2 (by omega) (by omega)) (va_cwS 2 hts (lw_S q1751 q1752 q87 q1753) rfl rfl rfl (by decide +kernel) ⟨Nat.le_of_ble_eq_true rfl, Nat.le_of_ble_eq_true rfl⟩) (g_preS hG) rfl rfl hl.1 rfl (lv_room (Nat.le_of_ble_eq_true rfl)) dX0_remark_51 ⟨by show _ ≤ 8; omega, by show _ ≤ 400; omega⟩) hG (fun F_84 V_85 ws_ H locs hp hG => ?_)
              obtain ⟨rfl, rfl, rfl⟩ := hp
              have hG : gW X F V (Z) s H locs := hG
              obtain ⟨i1, rfl⟩ : ∃ z : Nat, i = (z : Int) := ⟨i.toNat, by omega⟩
              refine lv_aload hx hb dX0_remark_54 (lv_at hl 0 rfl) ?_
              refine lv_iload hx hb dX0_remark_56 (lv_at hl 6 rfl) ?_
              by_cases hcj : 0 ≤ j ∧ j < ((wTx (aWd a) v1).length : Int)
              · refine g_cv (va_runS (As := [.ref (ra v1), .int (zI j)]) (rest := []) ⟨hx, hb, hml, hown, hts⟩ (metX0_mustLine_t (hR v1 (by omega)).1 (hR v1 (by omega)).2 (by omega) (by omega)) (va_cwS 2 hts (lw_S q1751 q1752 q87 q1753) rfl rfl rfl (by decide +kernel) ⟨Nat.le_of_ble_eq_true rfl, Nat.le_of_ble_eq_true rfl⟩) (g_preS hG) rfl rfl hl.1 rfl (lv_room (Nat.le_of_ble_eq_true rfl)) dX0_remark_58 ⟨by show _ ≤ 8; omega, by show _ ≤ 400; omega⟩) hG (fun F_87 V_88 ws_ H locs hp hG => ?_)
                obtain ⟨rfl, rfl, rfl⟩ := hp
                have hG : gW X F V (Z) s H locs := hG
                obtain ⟨j1, rfl⟩ : ∃ z : Nat, j = (z : Int) := ⟨j.toNat, by omega⟩
                refine lv_iload hx hb dX0_remark_61 (lv_at hl 5 rfl) ?_
                refine lv_iload hx hb dX0_remark_63 (lv_at hl 6 rfl) ?_
                refine g_cgt (tgt := 72) hx hb dX0_remark_65 (by decide) (by omega) (fun h5 => ?_) (fun h5 => ?_)
                · refine lv_iconst (v := zI 0) hx hb dX0_remark_72 (by decide +kernel) ?_
                  refine lv_bipush (v := zI (-5)) hx hb dX0_remark_73 (by decide +kernel) ?_
                  refine g_xv (vx_runS (As := [.int (zI 0), .int (zI (-5))]) (rest := []) ⟨hx, hb, hml, hown, hts⟩ (metX0_need_f (k := 5)) (va_cwS 2 hts (lw_S q520 q521 q87 q522) rfl rfl rfl (by decide +kernel) ⟨Nat.le_of_ble_eq_true rfl, Nat.le_of_ble_eq_true rfl⟩) (g_preS hG) rfl rfl hl.1 rfl (lv_room (Nat.le_of_ble_eq_true rfl)) dX0_remark_75 ⟨by show _ ≤ 8; omega, by show _ ≤ 400; omega⟩) hG (fun E9 ce9 q9 Fx_92 Vx_93 ws_ H locs hpx hG hce => ?_) (fun F_90 V_91 ws_ H locs hp hG => ?_)
                  · obtain ⟨rfl, hle_Fx_92, hq9, rfl, rfl⟩ := hpx
                    have hG : gW X Fx_92 V (Z) s H locs := hG
                    refine g_catch (name := "LineRemarks$Refused") hown htab [] ⟨0, 131, 132, 21⟩ [] rfl (fun z9 hz9 => absurd hz9 List.not_mem_nil) (by decide) (by decide) (hts _ q410) (hG.1.2.1.1 _ qn498) hce ?_
                    refine lv_astore (lv' := [(7, .ref q9), (0, .ref x), (1, .int (zI (kd1 : Int))), (2, .int (zI k)), (3, .int (zI (v1 : Int))), (4, .int (zI (i1 : Int))), (5, .int (zI (j1 : Int))), (6, .int (zI (an1 : Int)))]) hx hb dX0_remark_132 hl (by decide) rfl (fun ls hl => ?_)
                    refine lv_aload_n hx hb dX0_remark_134 rfl (lv_at hl 1 rfl) ?_
                    refine lv_aload hx hb dX0_remark_135 (lv_at hl 0 rfl) ?_
                    refine g_ci (va_runV (As := [.ref q9]) (rest := []) ⟨hx, hb, hml, hown, hts⟩ (metX0_refused (k := 5) (hS.mono hle_Fx_92) hA hq9 (by decide)) (cwV 1 hts (lw_V q589 q591 qs2 q87 q592) rfl rfl rfl (by decide +kernel) ⟨Nat.le_of_ble_eq_true rfl, Nat.le_of_ble_eq_true rfl⟩) (g_preV hG (g_recv hG (hG.vo hx0) (ci := 0) rfl)) rfl rfl hl.1 rfl (lv_room (Nat.le_of_ble_eq_true rfl)) dX0_remark_137 ⟨by show _ ≤ 8; omega, by show _ ≤ 400; omega⟩) hG (fun r_94 F_95 V_96 ws_ H locs hp hG => ?_)
                    obtain ⟨rfl, rfl, hS9, rfl⟩ := hp
                    have hG : gW X Fx_92 V_96 (Z) s H locs := hG
                    refine vx_ret ?_
                    exact g_iret hx hb hr hlocks hG (by have e9 : opRemark a (kd1 : Int) k (v1 : Int) (i1 : Int) (j1 : Int) (an1 : Int) = aNoR a 5 := (by unfold opRemark; rw [if_neg (by omega), if_pos (by omega)]; first | done | rfl); rw [e9]; exact ⟨hle_Fx_92, rfl, hS9.ex, rfl⟩) ⟨by show _ ≤ 8; omega, by show _ ≤ 400; omega⟩ dX0_remark_140
                  exact hp.elim
                · refine lv_iconst (v := zI 1) hx hb dX0_remark_68 (by decide +kernel) ?_
                  refine lv_goto (tgt := 73) hx hb dX0_remark_69 (by decide) ?_
                  refine lv_bipush (v := zI (-5)) hx hb dX0_remark_73 (by decide +kernel) ?_
                  refine g_cv (va_runS (As := [.int (zI 1), .int (zI (-5))]) (rest := []) ⟨hx, hb, hml, hown, hts⟩ (metX0_need_t (b := 1) (by decide)) (va_cwS 2 hts (lw_S q520 q521 q87 q522) rfl rfl rfl (by decide +kernel) ⟨Nat.le_of_ble_eq_true rfl, Nat.le_of_ble_eq_true rfl⟩) (g_preS hG) rfl rfl hl.1 rfl (lv_room (Nat.le_of_ble_eq_true rfl)) dX0_remark_75 ⟨by show _ ≤ 8; omega, by show _ ≤ 400; omega⟩) hG (fun F_98 V_99 ws_ H locs hp hG => ?_)
                  obtain ⟨rfl, rfl, rfl⟩ := hp
                  have hG : gW X F V (Z) s H locs := hG
                  by_cases hnk : 0 ≤ k ∧ k ≤ 9
                  · refine lv_iload_n hx hb dX0_remark_78 rfl (lv_at hl 3 rfl) ?_
                    refine g_i2l hx hb dX0_remark_79 (by omega) ?_
                    refine lv_lconst (v := zL 0) hx hb dX0_remark_80 (by decide +kernel) ?_
                    refine lv_ldc2 (v := 9) hx hb hown (hts _ q1773) dX0_remark_81 ?_
                    refine g_topv (y := .long (zL 9)) (congrArg Value.long (by decide +kernel)) ?_
                    refine g_ci (va_runS (As := [.long (zL k), .long (zL 0), .long (zL 9)]) (rest := []) ⟨hx, hb, hml, hown, hts⟩ (metX0_in (a9 := k) (b9 := 0) (c9 := 9) (by omega)) (va_cwS 3 hts (lw_S q524 q525 q87 q526) rfl rfl rfl (by decide +kernel) ⟨Nat.le_of_ble_eq_true rfl, Nat.le_of_ble_eq_true rfl⟩) (g_preS hG) rfl rfl hl.1 rfl (lv_room (Nat.le_of_ble_eq_true rfl)) dX0_remark_84 ⟨by show _ ≤ 8; omega, by show _ ≤ 400; omega⟩) hG (fun r_100 F_101 V_102 ws_ H locs hp hG => ?_)
                    obtain ⟨rfl, rfl, rfl, rfl⟩ := hp
                    have hG : gW X F V (Z) s H locs := hG
                    refine g_topz (y := 1) (by rw [decide_eq_true (by omega)]; rfl) ?_
                    refine lv_bipush (v := zI (-6)) hx hb dX0_remark_87 (by decide +kernel) ?_
                    refine g_cv (va_runS (As := [.int (zI 1), .int (zI (-6))]) (rest := []) ⟨hx, hb, hml, hown, hts⟩ (metX0_need_t (b := 1) (by decide)) (va_cwS 2 hts (lw_S q520 q521 q87 q522) rfl rfl rfl (by decide +kernel) ⟨Nat.le_of_ble_eq_true rfl, Nat.le_of_ble_eq_true rfl⟩) (g_preS hG) rfl rfl hl.1 rfl (lv_room (Nat.le_of_ble_eq_true rfl)) dX0_remark_89 ⟨by show _ ≤ 8; omega, by show _ ≤ 400; omega⟩) hG (fun F_104 V_105 ws_ H locs hp hG => ?_)
                    obtain ⟨rfl, rfl, rfl⟩ := hp
                    have hG : gW X F V (Z) s H locs := hG
                    refine lv_aload_n hx hb dX0_remark_92 rfl (lv_at hl 1 rfl) ?_
                    refine g_get (ci := 0) hx hb hts in_X0 hown hG (hG.vo hx0) rfl 4 (Nat.le_of_ble_eq_true rfl) (hts _ q388) (fun _ h9 => h9) rfl dX0_remark_93 ?_
                    refine g_get (ci := 2) hx hb hts in_X2 hown hG (hG.vo hw0) rfl 1 (Nat.le_of_ble_eq_true rfl) (hts _ q336) (fun _ h9 => h9) rfl dX0_remark_96 ?_
                    refine lv_bipush (v := zI 16) hx hb dX0_remark_99 (by decide +kernel) ?_
                    refine g_cge (tgt := 108) hx hb dX0_remark_101 (by decide) (by omega) (fun h6 => ?_) (fun h6 => ?_)
                    · refine lv_iconst (v := zI 0) hx hb dX0_remark_108 (by decide +kernel) ?_
                      refine lv_bipush (v := zI (-7)) hx hb dX0_remark_109 (by decide +kernel) ?_
                      refine g_xv (vx_runS (As := [.int (zI 0), .int (zI (-7))]) (rest := []) ⟨hx, hb, hml, hown, hts⟩ (metX0_need_f (k := 7)) (va_cwS 2 hts (lw_S q520 q521 q87 q522) rfl rfl rfl (by decide +kernel) ⟨Nat.le_of_ble_eq_true rfl, Nat.le_of_ble_eq_true rfl⟩) (g_preS hG) rfl rfl hl.1 rfl (lv_room (Nat.le_of_ble_eq_true rfl)) dX0_remark_111 ⟨by show _ ≤ 8; omega, by show _ ≤ 400; omega⟩) hG (fun E9 ce9 q9 Fx_109 Vx_110 ws_ H locs hpx hG hce => ?_) (fun F_107 V_108 ws_ H locs hp hG => ?_)
                      · obtain ⟨rfl, hle_Fx_109, hq9, rfl, rfl⟩ := hpx
                        have hG : gW X Fx_109 V (Z) s H locs := hG
                        refine g_catch (name := "LineRemarks$Refused") hown htab [] ⟨0, 131, 132, 21⟩ [] rfl (fun z9 hz9 => absurd hz9 List.not_mem_nil) (by decide) (by decide) (hts _ q410) (hG.1.2.1.1 _ qn498) hce ?_
                        refine lv_astore (lv' := [(7, .ref q9), (0, .ref x), (1, .int (zI (kd1 : Int))), (2, .int (zI k)), (3, .int (zI (v1 : Int))), (4, .int (zI (i1 : Int))), (5, .int (zI (j1 : Int))), (6, .int (zI (an1 : Int)))]) hx hb dX0_remark_132 hl (by decide) rfl (fun ls hl => ?_)
                        refine lv_aload_n hx hb dX0_remark_134 rfl (lv_at hl 1 rfl) ?_
                        refine lv_aload hx hb dX0_remark_135 (lv_at hl 0 rfl) ?_
                        refine g_ci (va_runV (As := [.ref q9]) (rest := []) ⟨hx, hb, hml, hown, hts⟩ (metX0_refused (k := 7) (hS.mono hle_Fx_109) hA hq9 (by decide)) (cwV 1 hts (lw_V q589 q591 qs2 q87 q592) rfl rfl rfl (by decide +kernel) ⟨Nat.le_of_ble_eq_true rfl, Nat.le_of_ble_eq_true rfl⟩) (g_preV hG (g_recv hG (hG.vo hx0) (ci := 0) rfl)) rfl rfl hl.1 rfl (lv_room (Nat.le_of_ble_eq_true rfl)) dX0_remark_137 ⟨by show _ ≤ 8; omega, by show _ ≤ 400; omega⟩) hG (fun r_111 F_112 V_113 ws_ H locs hp hG => ?_)
                        obtain ⟨rfl, rfl, hS9, rfl⟩ := hp
                        have hG : gW X Fx_109 V_113 (Z) s H locs := hG
                        refine vx_ret ?_
                        exact g_iret hx hb hr hlocks hG (by have e9 : opRemark a (kd1 : Int) k (v1 : Int) (i1 : Int) (j1 : Int) (an1 : Int) = aNoR a 7 := (by unfold opRemark; rw [if_neg (by omega), if_neg (by omega), if_neg (by omega), if_pos (by omega)]; first | done | rfl); rw [e9]; exact ⟨hle_Fx_109, rfl, hS9.ex, rfl⟩) ⟨by show _ ≤ 8; omega, by show _ ≤ 400; omega⟩ dX0_remark_140
                      exact hp.elim
                    · refine lv_iconst (v := zI 1) hx hb dX0_remark_104 (by decide +kernel) ?_
                      refine lv_goto (tgt := 109) hx hb dX0_remark_105 (by decide) ?_
                      refine lv_bipush (v := zI (-7)) hx hb dX0_remark_109 (by decide +kernel) ?_
                      refine g_cv (va_runS (As := [.int (zI 1), .int (zI (-7))]) (rest := []) ⟨hx, hb, hml, hown, hts⟩ (metX0_need_t (b := 1) (by decide)) (va_cwS 2 hts (lw_S q520 q521 q87 q522) rfl rfl rfl (by decide +kernel) ⟨Nat.le_of_ble_eq_true rfl, Nat.le_of_ble_eq_true rfl⟩) (g_preS hG) rfl rfl hl.1 rfl (lv_room (Nat.le_of_ble_eq_true rfl)) dX0_remark_111 ⟨by show _ ≤ 8; omega, by show _ ≤ 400; omega⟩) hG (fun F_115 V_116 ws_ H locs hp hG => ?_)
                      obtain ⟨rfl, rfl, rfl⟩ := hp
                      have hG : gW X F V (Z) s H locs := hG
                      obtain ⟨k1, rfl⟩ : ∃ z : Nat, k = (z : Int) := ⟨k.toNat, by omega⟩
                      refine lv_aload_n hx hb dX0_remark_114 rfl (lv_at hl 1 rfl) ?_
                      refine g_get (ci := 0) hx hb hts in_X0 hown hG (hG.vo hx0) rfl 4 (Nat.le_of_ble_eq_true rfl) (hts _ q388) (fun _ h9 => h9) rfl dX0_remark_115 ?_
                      refine lv_iload_n hx hb dX0_remark_118 rfl (lv_at hl 2 rfl) ?_
                      refine lv_iload_n hx hb dX0_remark_119 rfl (lv_at hl 3 rfl) ?_
                      refine lv_aload hx hb dX0_remark_120 (lv_at hl 0 rfl) ?_
                      refine lv_iload hx hb dX0_remark_122 (lv_at hl 5 rfl) ?_
                      refine lv_iload hx hb dX0_remark_124 (lv_at hl 6 rfl) ?_
                      refine lv_iload hx hb dX0_remark_126 (lv_at hl 7 rfl) ?_
                      refine g_ci (va_runV (As := [.int (zI (kd1 : Int)), .int (zI (k1 : Int)), .ref (ra v1), .int (zI (i1 : Int)), .int (zI (j1 : Int)), .int (zI (an1 : Int))]) (rest := []) ⟨hx, hb, hml, hown, hts⟩ (metX2_make_m (kd := kd1) (k9 := k1) (on := v1) (pp := i1) (qq := j1) (an := (some an1)) hW hK (by omega) (by omega)) (cwV 6 hts (lw_V q2047 q2048 q2049 q100 q2050) rfl rfl rfl (by decide +kernel) ⟨Nat.le_of_ble_eq_true rfl, Nat.le_of_ble_eq_true rfl⟩) (g_preV hG (g_recv hG (hG.vo hw0) (ci := 2) rfl)) rfl rfl hl.1 rfl (lv_room (Nat.le_of_ble_eq_true rfl)) dX0_remark_128 ⟨by show _ ≤ 8; omega, by show _ ≤ 400; omega⟩) hG (fun r_117 G1 V_118 ws_ H locs hp hG => ?_)
                      obtain ⟨hle_G1, rfl, ma9, hW9, hB9, hma9, rfl⟩ := hp
                      have hG : gW X G1 V_118 (Z) s H locs := hG
                      refine vx_ret ?_
                      exact g_iret hx hb hr hlocks hG (by have e9 : opRemark a (kd1 : Int) (k1 : Int) (v1 : Int) (i1 : Int) (j1 : Int) (an1 : Int) = (((wM (aWd a) : Nat) : Int), aSetW a (wMake (aWd a) (kd1, k1, v1, i1, j1, (some an1)))) := (by unfold opRemark; rw [if_neg (by omega), if_neg (by omega), if_neg (by omega), if_neg (by omega)]; first | done | exact congrArg (fun z => (((wM (aWd a) : Nat) : Int), aSetW a (wMake (aWd a) (kd1, k1, v1, i1, j1, z)))) (iO_n an1)); rw [e9]; exact ⟨hle_G1, rfl, (((hS.mono hle_G1).setW hA (fun r9 h8 h9 => hB9 r9 (by omega)) hW9 hma9)).ex, rfl⟩) ⟨by show _ ≤ 8; omega, by show _ ≤ 400; omega⟩ dX0_remark_131
                  · refine lv_iload_n hx hb dX0_remark_78 rfl (lv_at hl 3 rfl) ?_
                    refine g_i2l hx hb dX0_remark_79 (by omega) ?_
                    refine lv_lconst (v := zL 0) hx hb dX0_remark_80 (by decide +kernel) ?_
                    refine lv_ldc2 (v := 9) hx hb hown (hts _ q1773) dX0_remark_81 ?_
                    refine g_topv (y := .long (zL 9)) (congrArg Value.long (by decide +kernel)) ?_
                    refine g_ci (va_runS (As := [.long (zL k), .long (zL 0), .long (zL 9)]) (rest := []) ⟨hx, hb, hml, hown, hts⟩ (metX0_in (a9 := k) (b9 := 0) (c9 := 9) (by omega)) (va_cwS 3 hts (lw_S q524 q525 q87 q526) rfl rfl rfl (by decide +kernel) ⟨Nat.le_of_ble_eq_true rfl, Nat.le_of_ble_eq_true rfl⟩) (g_preS hG) rfl rfl hl.1 rfl (lv_room (Nat.le_of_ble_eq_true rfl)) dX0_remark_84 ⟨by show _ ≤ 8; omega, by show _ ≤ 400; omega⟩) hG (fun r_119 F_120 V_121 ws_ H locs hp hG => ?_)
                    obtain ⟨rfl, rfl, rfl, rfl⟩ := hp
                    have hG : gW X F V (Z) s H locs := hG
                    refine g_topz (y := 0) (by rw [decide_eq_false (by omega)]; rfl) ?_
                    refine lv_bipush (v := zI (-6)) hx hb dX0_remark_87 (by decide +kernel) ?_
                    refine g_xv (vx_runS (As := [.int (zI 0), .int (zI (-6))]) (rest := []) ⟨hx, hb, hml, hown, hts⟩ (metX0_need_f (k := 6)) (va_cwS 2 hts (lw_S q520 q521 q87 q522) rfl rfl rfl (by decide +kernel) ⟨Nat.le_of_ble_eq_true rfl, Nat.le_of_ble_eq_true rfl⟩) (g_preS hG) rfl rfl hl.1 rfl (lv_room (Nat.le_of_ble_eq_true rfl)) dX0_remark_89 ⟨by show _ ≤ 8; omega, by show _ ≤ 400; omega⟩) hG (fun E9 ce9 q9 Fx_125 Vx_126 ws_ H locs hpx hG hce => ?_) (fun F_123 V_124 ws_ H locs hp hG => ?_)
                    · obtain ⟨rfl, hle_Fx_125, hq9, rfl, rfl⟩ := hpx
                      have hG : gW X Fx_125 V (Z) s H locs := hG
                      refine g_catch (name := "LineRemarks$Refused") hown htab [] ⟨0, 131, 132, 21⟩ [] rfl (fun z9 hz9 => absurd hz9 List.not_mem_nil) (by decide) (by decide) (hts _ q410) (hG.1.2.1.1 _ qn498) hce ?_
                      refine lv_astore (lv' := [(7, .ref q9), (0, .ref x), (1, .int (zI (kd1 : Int))), (2, .int (zI k)), (3, .int (zI (v1 : Int))), (4, .int (zI (i1 : Int))), (5, .int (zI (j1 : Int))), (6, .int (zI (an1 : Int)))]) hx hb dX0_remark_132 hl (by decide) rfl (fun ls hl => ?_)
                      refine lv_aload_n hx hb dX0_remark_134 rfl (lv_at hl 1 rfl) ?_
                      refine lv_aload hx hb dX0_remark_135 (lv_at hl 0 rfl) ?_
                      refine g_ci (va_runV (As := [.ref q9]) (rest := []) ⟨hx, hb, hml, hown, hts⟩ (metX0_refused (k := 6) (hS.mono hle_Fx_125) hA hq9 (by decide)) (cwV 1 hts (lw_V q589 q591 qs2 q87 q592) rfl rfl rfl (by decide +kernel) ⟨Nat.le_of_ble_eq_true rfl, Nat.le_of_ble_eq_true rfl⟩) (g_preV hG (g_recv hG (hG.vo hx0) (ci := 0) rfl)) rfl rfl hl.1 rfl (lv_room (Nat.le_of_ble_eq_true rfl)) dX0_remark_137 ⟨by show _ ≤ 8; omega, by show _ ≤ 400; omega⟩) hG (fun r_127 F_128 V_129 ws_ H locs hp hG => ?_)
                      obtain ⟨rfl, rfl, hS9, rfl⟩ := hp
                      have hG : gW X Fx_125 V_129 (Z) s H locs := hG
                      refine vx_ret ?_
                      exact g_iret hx hb hr hlocks hG (by have e9 : opRemark a (kd1 : Int) k (v1 : Int) (i1 : Int) (j1 : Int) (an1 : Int) = aNoR a 6 := (by unfold opRemark; rw [if_neg (by omega), if_neg (by omega), if_pos (by omega)]; first | done | rfl); rw [e9]; exact ⟨hle_Fx_125, rfl, hS9.ex, rfl⟩) ⟨by show _ ≤ 8; omega, by show _ ≤ 400; omega⟩ dX0_remark_140
                    exact hp.elim
              · refine g_xv (vx_runS (As := [.ref (ra v1), .int (zI j)]) (rest := []) ⟨hx, hb, hml, hown, hts⟩ (metX0_mustLine_f (hR v1 (by omega)).1 (hR v1 (by omega)).2 (by omega) (by omega)) (va_cwS 2 hts (lw_S q1751 q1752 q87 q1753) rfl rfl rfl (by decide +kernel) ⟨Nat.le_of_ble_eq_true rfl, Nat.le_of_ble_eq_true rfl⟩) (g_preS hG) rfl rfl hl.1 rfl (lv_room (Nat.le_of_ble_eq_true rfl)) dX0_remark_58 ⟨by show _ ≤ 8; omega, by show _ ≤ 400; omega⟩) hG (fun E9 ce9 q9 Fx_133 Vx_134 ws_ H locs hpx hG hce => ?_) (fun F_131 V_132 ws_ H locs hp hG => ?_)
                · obtain ⟨rfl, hle_Fx_133, hq9, rfl, rfl⟩ := hpx
                  have hG : gW X Fx_133 V (Z) s H locs := hG
                  refine g_catch (name := "LineRemarks$Refused") hown htab [] ⟨0, 131, 132, 21⟩ [] rfl (fun z9 hz9 => absurd hz9 List.not_mem_nil) (by decide) (by decide) (hts _ q410) (hG.1.2.1.1 _ qn498) hce ?_
                  refine lv_astore (lv' := [(7, .ref q9), (0, .ref x), (1, .int (zI (kd1 : Int))), (2, .int (zI k)), (3, .int (zI (v1 : Int))), (4, .int (zI (i1 : Int))), (5, .int (zI j)), (6, .int (zI (an1 : Int)))]) hx hb dX0_remark_132 hl (by decide) rfl (fun ls hl => ?_)
                  refine lv_aload_n hx hb dX0_remark_134 rfl (lv_at hl 1 rfl) ?_
                  refine lv_aload hx hb dX0_remark_135 (lv_at hl 0 rfl) ?_
                  refine g_ci (va_runV (As := [.ref q9]) (rest := []) ⟨hx, hb, hml, hown, hts⟩ (metX0_refused (k := 5) (hS.mono hle_Fx_133) hA hq9 (by decide)) (cwV 1 hts (lw_V q589 q591 qs2 q87 q592) rfl rfl rfl (by decide +kernel) ⟨Nat.le_of_ble_eq_true rfl, Nat.le_of_ble_eq_true rfl⟩) (g_preV hG (g_recv hG (hG.vo hx0) (ci := 0) rfl)) rfl rfl hl.1 rfl (lv_room (Nat.le_of_ble_eq_true rfl)) dX0_remark_137 ⟨by show _ ≤ 8; omega, by show _ ≤ 400; omega⟩) hG (fun r_135 F_136 V_137 ws_ H locs hp hG => ?_)
                  obtain ⟨rfl, rfl, hS9, rfl⟩ := hp
                  have hG : gW X Fx_133 V_137 (Z) s H locs := hG
                  refine vx_ret ?_
                  exact g_iret hx hb hr hlocks hG (by have e9 : opRemark a (kd1 : Int) k (v1 : Int) (i1 : Int) j (an1 : Int) = aNoR a 5 := (by unfold opRemark; rw [if_neg (by omega), if_pos (by omega)]; first | done | rfl); rw [e9]; exact ⟨hle_Fx_133, rfl, hS9.ex, rfl⟩) ⟨by show _ ≤ 8; omega, by show _ ≤ 400; omega⟩ dX0_remark_140
                exact hp.elim
            · refine g_xv (vx_runS (As := [.ref (ra v1), .int (zI i)]) (rest := []) ⟨hx, hb, hml, hown, hts⟩ (metX0_mustLine_f (hR v1 (by omega)).1 (hR v1 (by omega)).2 (by omega) (by omega)) (va_cwS 2 hts (lw_S q1751 q1752 q87 q1753) rfl rfl rfl (by decide +kernel) ⟨Nat.le_of_ble_eq_true rfl, Nat.le_of_ble_eq_true rfl⟩) (g_preS hG) rfl rfl hl.1 rfl (lv_room (Nat.le_of_ble_eq_true rfl)) dX0_remark_51 ⟨by show _ ≤ 8; omega, by show _ ≤ 400; omega⟩) hG (fun E9 ce9 q9 Fx_141 Vx_142 ws_ H locs hpx hG hce => ?_) (fun F_139 V_140 ws_ H locs hp hG => ?_)
              · obtain ⟨rfl, hle_Fx_141, hq9, rfl, rfl⟩ := hpx
                have hG : gW X Fx_141 V (Z) s H locs := hG
                refine g_catch (name := "LineRemarks$Refused") hown htab [] ⟨0, 131, 132, 21⟩ [] rfl (fun z9 hz9 => absurd hz9 List.not_mem_nil) (by decide) (by decide) (hts _ q410) (hG.1.2.1.1 _ qn498) hce ?_
                refine lv_astore (lv' := [(7, .ref q9), (0, .ref x), (1, .int (zI (kd1 : Int))), (2, .int (zI k)), (3, .int (zI (v1 : Int))), (4, .int (zI i)), (5, .int (zI j)), (6, .int (zI (an1 : Int)))]) hx hb dX0_remark_132 hl (by decide) rfl (fun ls hl => ?_)
                refine lv_aload_n hx hb dX0_remark_134 rfl (lv_at hl 1 rfl) ?_
                refine lv_aload hx hb dX0_remark_135 (lv_at hl 0 rfl) ?_
                refine g_ci (va_runV (As := [.ref q9]) (rest := []) ⟨hx, hb, hml, hown, hts⟩ (metX0_refused (k := 5) (hS.mono hle_Fx_141) hA hq9 (by decide)) (cwV 1 hts (lw_V q589 q591 qs2 q87 q592) rfl rfl rfl (by decide +kernel) ⟨Nat.le_of_ble_eq_true rfl, Nat.le_of_ble_eq_true rfl⟩) (g_preV hG (g_recv hG (hG.vo hx0) (ci := 0) rfl)) rfl rfl hl.1 rfl (lv_room (Nat.le_of_ble_eq_true rfl)) dX0_remark_137 ⟨by show _ ≤ 8; omega, by show _ ≤ 400; omega⟩) hG (fun r_143 F_144 V_145 ws_ H locs hp hG => ?_)
                obtain ⟨rfl, rfl, hS9, rfl⟩ := hp
                have hG : gW X Fx_141 V_145 (Z) s H locs := hG
                refine vx_ret ?_
                exact g_iret hx hb hr hlocks hG (by have e9 : opRemark a (kd1 : Int) k (v1 : Int) i j (an1 : Int) = aNoR a 5 := (by unfold opRemark; rw [if_neg (by omega), if_pos (by omega)]; first | done | rfl); rw [e9]; exact ⟨hle_Fx_141, rfl, hS9.ex, rfl⟩) ⟨by show _ ≤ 8; omega, by show _ ≤ 400; omega⟩ dX0_remark_140
              exact hp.elim
      · refine lv_astore (lv' := [(7, .ref (ra v1)), (0, .ref x), (1, .int (zI (kd1 : Int))), (2, .int (zI k)), (3, .int (zI (v1 : Int))), (4, .int (zI i)), (5, .int (zI j)), (6, .int (zI an))]) hx hb dX0_remark_18 hl (by decide) rfl (fun ls hl => ?_)
        refine lv_iload hx hb dX0_remark_20 (lv_at hl 7 rfl) ?_
        refine lv_iconst (v := zI (-1)) hx hb dX0_remark_22 (by decide +kernel) ?_
        refine g_ceq (tgt := 38) hx hb dX0_remark_23 (by decide) (by omega) (fun h4 => ?_) (fun h4 => ?_)
        · exfalso; omega
        · refine lv_aload_n hx hb dX0_remark_26 rfl (lv_at hl 1 rfl) ?_
          refine g_get (ci := 0) hx hb hts in_X0 hown hG (hG.vo hx0) rfl 4 (Nat.le_of_ble_eq_true rfl) (hts _ q388) (fun _ h9 => h9) rfl dX0_remark_27 ?_
          refine lv_iload hx hb dX0_remark_30 (lv_at hl 7 rfl) ?_
          refine g_ci (va_runV (As := [.int (zI an)]) (rest := []) ⟨hx, hb, hml, hown, hts⟩ (metX2_isRemark hW hK (by omega)) (cwV 1 hts (lw_V q704 q705 q706 q100 q707) rfl rfl rfl (by decide +kernel) ⟨Nat.le_of_ble_eq_true rfl, Nat.le_of_ble_eq_true rfl⟩) (g_preV hG (g_recv hG (hG.vo hw0) (ci := 2) rfl)) rfl rfl hl.1 rfl (lv_room (Nat.le_of_ble_eq_true rfl)) dX0_remark_32 ⟨by show _ ≤ 8; omega, by show _ ≤ 400; omega⟩) hG (fun r_146 F_147 V_148 ws_ H locs hp hG => ?_)
          obtain ⟨rfl, rfl, rfl, rfl⟩ := hp
          have hG : gW X F V (Z) s H locs := hG
          refine g_topz (y := 0) (by rw [decide_eq_false (by omega)]; rfl) ?_
          refine g_eq (tgt := 42) hx hb dX0_remark_35 (by decide) (by decide) (fun hq => ?_) (fun hq => ?_)
          · refine lv_iconst (v := zI 0) hx hb dX0_remark_42 (by decide +kernel) ?_
            refine lv_iconst (v := zI (-1)) hx hb dX0_remark_43 (by decide +kernel) ?_
            refine g_xv (vx_runS (As := [.int (zI 0), .int (zI (-1))]) (rest := []) ⟨hx, hb, hml, hown, hts⟩ (metX0_need_f (k := 1)) (va_cwS 2 hts (lw_S q520 q521 q87 q522) rfl rfl rfl (by decide +kernel) ⟨Nat.le_of_ble_eq_true rfl, Nat.le_of_ble_eq_true rfl⟩) (g_preS hG) rfl rfl hl.1 rfl (lv_room (Nat.le_of_ble_eq_true rfl)) dX0_remark_44 ⟨by show _ ≤ 8; omega, by show _ ≤ 400; omega⟩) hG (fun E9 ce9 q9 Fx_152 Vx_153 ws_ H locs hpx hG hce => ?_) (fun F_150 V_151 ws_ H locs hp hG => ?_)
            · obtain ⟨rfl, hle_Fx_152, hq9, rfl, rfl⟩ := hpx
              have hG : gW X Fx_152 V (Z) s H locs := hG
              refine g_catch (name := "LineRemarks$Refused") hown htab [] ⟨0, 131, 132, 21⟩ [] rfl (fun z9 hz9 => absurd hz9 List.not_mem_nil) (by decide) (by decide) (hts _ q410) (hG.1.2.1.1 _ qn498) hce ?_
              refine lv_astore (lv' := [(7, .ref q9), (0, .ref x), (1, .int (zI (kd1 : Int))), (2, .int (zI k)), (3, .int (zI (v1 : Int))), (4, .int (zI i)), (5, .int (zI j)), (6, .int (zI an))]) hx hb dX0_remark_132 hl (by decide) rfl (fun ls hl => ?_)
              refine lv_aload_n hx hb dX0_remark_134 rfl (lv_at hl 1 rfl) ?_
              refine lv_aload hx hb dX0_remark_135 (lv_at hl 0 rfl) ?_
              refine g_ci (va_runV (As := [.ref q9]) (rest := []) ⟨hx, hb, hml, hown, hts⟩ (metX0_refused (k := 1) (hS.mono hle_Fx_152) hA hq9 (by decide)) (cwV 1 hts (lw_V q589 q591 qs2 q87 q592) rfl rfl rfl (by decide +kernel) ⟨Nat.le_of_ble_eq_true rfl, Nat.le_of_ble_eq_true rfl⟩) (g_preV hG (g_recv hG (hG.vo hx0) (ci := 0) rfl)) rfl rfl hl.1 rfl (lv_room (Nat.le_of_ble_eq_true rfl)) dX0_remark_137 ⟨by show _ ≤ 8; omega, by show _ ≤ 400; omega⟩) hG (fun r_154 F_155 V_156 ws_ H locs hp hG => ?_)
              obtain ⟨rfl, rfl, hS9, rfl⟩ := hp
              have hG : gW X Fx_152 V_156 (Z) s H locs := hG
              refine vx_ret ?_
              exact g_iret hx hb hr hlocks hG (by have e9 : opRemark a (kd1 : Int) k (v1 : Int) i j an = aNoR a 1 := (by unfold opRemark; rw [if_pos (by omega)]; first | done | rfl); rw [e9]; exact ⟨hle_Fx_152, rfl, hS9.ex, rfl⟩) ⟨by show _ ≤ 8; omega, by show _ ≤ 400; omega⟩ dX0_remark_140
            exact hp.elim
          · exfalso; omega
    · refine g_xr (vx_runV (As := [.int (zI v)]) (rest := []) ⟨hx, hb, hml, hown, hts⟩ (metX0_revision_f hS hA (by omega)) (cwV 1 hts (lw_V q737 q739 qs4 q87 q740) rfl rfl rfl (by decide +kernel) ⟨Nat.le_of_ble_eq_true rfl, Nat.le_of_ble_eq_true rfl⟩) (g_preV hG (g_recv hG (hG.vo hx0) (ci := 0) rfl)) rfl rfl hl.1 rfl (lv_room (Nat.le_of_ble_eq_true rfl)) dX0_remark_15 ⟨by show _ ≤ 8; omega, by show _ ≤ 400; omega⟩) hG (fun E9 ce9 q9 Fx_160 Vx_161 ws_ H locs hpx hG hce => ?_) (fun r_157 F_158 V_159 ws_ H locs hp hG => ?_)
      · obtain ⟨rfl, hle_Fx_160, hq9, rfl, rfl⟩ := hpx
        have hG : gW X Fx_160 V (Z) s H locs := hG
        refine g_catch (name := "LineRemarks$Refused") hown htab [] ⟨0, 131, 132, 21⟩ [] rfl (fun z9 hz9 => absurd hz9 List.not_mem_nil) (by decide) (by decide) (hts _ q410) (hG.1.2.1.1 _ qn498) hce ?_
        refine lv_astore (lv' := [(7, .ref q9), (0, .ref x), (1, .int (zI (kd1 : Int))), (2, .int (zI k)), (3, .int (zI v)), (4, .int (zI i)), (5, .int (zI j)), (6, .int (zI an))]) hx hb dX0_remark_132 hl (by decide) rfl (fun ls hl => ?_)
        refine lv_aload_n hx hb dX0_remark_134 rfl (lv_at hl 1 rfl) ?_
        refine lv_aload hx hb dX0_remark_135 (lv_at hl 0 rfl) ?_
        refine g_ci (va_runV (As := [.ref q9]) (rest := []) ⟨hx, hb, hml, hown, hts⟩ (metX0_refused (k := 1) (hS.mono hle_Fx_160) hA hq9 (by decide)) (cwV 1 hts (lw_V q589 q591 qs2 q87 q592) rfl rfl rfl (by decide +kernel) ⟨Nat.le_of_ble_eq_true rfl, Nat.le_of_ble_eq_true rfl⟩) (g_preV hG (g_recv hG (hG.vo hx0) (ci := 0) rfl)) rfl rfl hl.1 rfl (lv_room (Nat.le_of_ble_eq_true rfl)) dX0_remark_137 ⟨by show _ ≤ 8; omega, by show _ ≤ 400; omega⟩) hG (fun r_162 F_163 V_164 ws_ H locs hp hG => ?_)
        obtain ⟨rfl, rfl, hS9, rfl⟩ := hp
        have hG : gW X Fx_160 V_164 (Z) s H locs := hG
        refine vx_ret ?_
        exact g_iret hx hb hr hlocks hG (by have e9 : opRemark a (kd1 : Int) k v i j an = aNoR a 1 := (by unfold opRemark; rw [if_pos (by omega)]; first | done | rfl); rw [e9]; exact ⟨hle_Fx_160, rfl, hS9.ex, rfl⟩) ⟨by show _ ≤ 8; omega, by show _ ≤ 400; omega⟩ dX0_remark_140
      exact hp.elim
  · refine g_ci (va_runS (As := [.long (zL kk), .long (zL 0), .long (zL 6)]) (rest := []) ⟨hx, hb, hml, hown, hts⟩ (metX0_in (a9 := kk) (b9 := 0) (c9 := 6) (by omega)) (va_cwS 3 hts (lw_S q524 q525 q87 q526) rfl rfl rfl (by decide +kernel) ⟨Nat.le_of_ble_eq_true rfl, Nat.le_of_ble_eq_true rfl⟩) (g_preS hG) rfl rfl hl.1 rfl (lv_room (Nat.le_of_ble_eq_true rfl)) dX0_remark_6 ⟨by show _ ≤ 8; omega, by show _ ≤ 400; omega⟩) hG (fun r_165 F_166 V_167 ws_ H locs hp hG => ?_)
    obtain ⟨rfl, rfl, rfl, rfl⟩ := hp
    have hG : gW X F V (Z) s H locs := hG
    refine g_topz (y := 0) (by rw [decide_eq_false (by omega)]; rfl) ?_
    refine lv_iconst (v := zI (-1)) hx hb dX0_remark_9 (by decide +kernel) ?_
    refine g_xv (vx_runS (As := [.int (zI 0), .int (zI (-1))]) (rest := []) ⟨hx, hb, hml, hown, hts⟩ (metX0_need_f (k := 1)) (va_cwS 2 hts (lw_S q520 q521 q87 q522) rfl rfl rfl (by decide +kernel) ⟨Nat.le_of_ble_eq_true rfl, Nat.le_of_ble_eq_true rfl⟩) (g_preS hG) rfl rfl hl.1 rfl (lv_room (Nat.le_of_ble_eq_true rfl)) dX0_remark_10 ⟨by show _ ≤ 8; omega, by show _ ≤ 400; omega⟩) hG (fun E9 ce9 q9 Fx_171 Vx_172 ws_ H locs hpx hG hce => ?_) (fun F_169 V_170 ws_ H locs hp hG => ?_)
    · obtain ⟨rfl, hle_Fx_171, hq9, rfl, rfl⟩ := hpx
      have hG : gW X Fx_171 V (Z) s H locs := hG
      refine g_catch (name := "LineRemarks$Refused") hown htab [] ⟨0, 131, 132, 21⟩ [] rfl (fun z9 hz9 => absurd hz9 List.not_mem_nil) (by decide) (by decide) (hts _ q410) (hG.1.2.1.1 _ qn498) hce ?_
      refine lv_astore (lv' := [(7, .ref q9), (0, .ref x), (1, .int (zI kk)), (2, .int (zI k)), (3, .int (zI v)), (4, .int (zI i)), (5, .int (zI j)), (6, .int (zI an))]) hx hb dX0_remark_132 hl (by decide) rfl (fun ls hl => ?_)
      refine lv_aload_n hx hb dX0_remark_134 rfl (lv_at hl 1 rfl) ?_
      refine lv_aload hx hb dX0_remark_135 (lv_at hl 0 rfl) ?_
      refine g_ci (va_runV (As := [.ref q9]) (rest := []) ⟨hx, hb, hml, hown, hts⟩ (metX0_refused (k := 1) (hS.mono hle_Fx_171) hA hq9 (by decide)) (cwV 1 hts (lw_V q589 q591 qs2 q87 q592) rfl rfl rfl (by decide +kernel) ⟨Nat.le_of_ble_eq_true rfl, Nat.le_of_ble_eq_true rfl⟩) (g_preV hG (g_recv hG (hG.vo hx0) (ci := 0) rfl)) rfl rfl hl.1 rfl (lv_room (Nat.le_of_ble_eq_true rfl)) dX0_remark_137 ⟨by show _ ≤ 8; omega, by show _ ≤ 400; omega⟩) hG (fun r_173 F_174 V_175 ws_ H locs hp hG => ?_)
      obtain ⟨rfl, rfl, hS9, rfl⟩ := hp
      have hG : gW X Fx_171 V_175 (Z) s H locs := hG
      refine vx_ret ?_
      exact g_iret hx hb hr hlocks hG (by have e9 : opRemark a kk k v i j an = aNoR a 1 := (by unfold opRemark; rw [if_pos (by omega)]; first | done | rfl); rw [e9]; exact ⟨hle_Fx_171, rfl, hS9.ex, rfl⟩) ⟨by show _ ≤ 8; omega, by show _ ≤ 400; omega⟩ dX0_remark_140
    exact hp.elim

set_option maxHeartbeats 4000000 in
theorem metX0_through {l : Launch} {X : gX} {F : gF} {V : gV} {Z : va_W} {x sa rf tr tb kl wa rv rk st : Nat} {sh ra la ma : Nat → Nat} {im : Option Nat} {a : aS} (hS : xS X F V x a sa rf tr tb kl wa rv rk st sh ra la ma im) (hA : aOK a) (hst : l.stackTraces = false) {v y i : Int} (hrv : (-2147483648 ≤ v ∧ v < 2147483648)) (hry : (-2147483648 ≤ y ∧ y < 2147483648)) (hri : (-2147483648 ≤ i ∧ i < 2147483648)) : vx_Met l yX0_through (wsW_ yX0_through cX0_through 9 (some FieldType.int) [(0, 107, 108, 21)]) ({ frames := 7, cells := 600, slots := 13500, locals := 158 }) (gP X F V (Z) [.ref x, .int (zI v), .int (zI y), .int (zI i)]) (gQi X (fun u G U ws => gLe F G ∧ u = zI (opThrough a v y i).1 ∧ xX X G U x (opThrough a v y i).2 ∧ Z = ws)) (gXc X (fun _ _ _ _ _ => False)) 600 13500 (gA X) := by
  refine vx_Met.gH (by decide) (Nat.le_of_ble_eq_true rfl) ?_
  intro p e s m below meth c ls hx hb hr hts hown hlocks hml hin htab hG hl
  have hl : lv_has ls 9 [(0, .ref x), (1, .int (zI v)), (2, .int (zI y)), (3, .int (zI i))] := hl
  have hSA := hS
  obtain ⟨hx0, ⟨fs9, hx1, hsh⟩, ⟨gr9, hx2, hgr⟩, hx3, hx4, hW, hx6, hx7⟩ := hSA
  have hSA := hS
  have hK := hA.w
  have hNN := hK.n
  have hMM := hK.m
  obtain ⟨hw0, ⟨fR, hw1, hwR⟩, ⟨fM, hw2, hwM⟩, ⟨fS, hw3, hwS⟩, hR, hMk⟩ := id hW
  have hw0 : V 4 = some (wa, oB 2 [.int (zI (wN (aWd a) : Int)), .int (zI (wM (aWd a) : Int)), .int (zI (wRun (aWd a) : Int)), .int (zI (wNeed (aWd a) : Int)), .int (zI (wMar (aWd a) : Int)), .int (wSeed (aWd a)), .ref rv, .ref rk, .ref st]) := hw0
  have hw1 : V 5 = some (rv, aR (gT X 7) 16 fR) := hw1
  have hw2 : V 6 = some (rk, aR (gT X 8) 16 fM) := hw2
  have hw3 : V 7 = some (st, aI (gT X 5) 16 fS) := hw3
  refine lv_aload_n hx hb dX0_through_0 rfl (lv_at hl 0 rfl) ?_
  refine lv_iload_n hx hb dX0_through_1 rfl (lv_at hl 1 rfl) ?_
  by_cases hcv : 0 ≤ v ∧ v < wN (aWd a)
  · obtain ⟨v1, rfl⟩ : ∃ z : Nat, v = (z : Int) := ⟨v.toNat, by omega⟩
    refine g_cr (va_runV (As := [.int (zI (v1 : Int))]) (rest := []) ⟨hx, hb, hml, hown, hts⟩ (metX0_revision_t (r := v1) hS hA (by omega)) (cwV 1 hts (lw_V q737 q739 qs4 q87 q740) rfl rfl rfl (by decide +kernel) ⟨Nat.le_of_ble_eq_true rfl, Nat.le_of_ble_eq_true rfl⟩) (g_preV hG (g_recv hG (hG.vo hx0) (ci := 0) rfl)) rfl rfl hl.1 rfl (lv_room (Nat.le_of_ble_eq_true rfl)) dX0_through_2 ⟨by show _ ≤ 600; omega, by show _ ≤ 13500; omega⟩) hG (fun r_1 F_2 V_3 ws_ H locs hp hG => ?_)
    obtain ⟨rfl, rfl, rfl, rfl⟩ := hp
    have hG : gW X F V (Z) s H locs := hG
    have hlnv1 : aLn a ((v1 : Nat) : Int) = ((wTx (aWd a) v1).length : Nat) := rfl
    have h24v1 := (hK.tx (r := v1) (by omega)).1
    refine lv_astore (lv' := [(4, .ref (ra v1)), (0, .ref x), (1, .int (zI (v1 : Int))), (2, .int (zI y)), (3, .int (zI i))]) hx hb dX0_through_5 hl (by decide) rfl (fun ls hl => ?_)
    refine lv_aload_n hx hb dX0_through_7 rfl (lv_at hl 1 rfl) ?_
    refine lv_iload_n hx hb dX0_through_8 rfl (lv_at hl 3 rfl) ?_
    by_cases hcy : 0 ≤ y ∧ y < wN (aWd a)
    · obtain ⟨y1, rfl⟩ : ∃ z : Nat, y = (z : Int) := ⟨y.toNat, by omega⟩
      refine g_cr (va_runV (As := [.int (zI (y1 : Int))]) (rest := []) ⟨hx, hb, hml, hown, hts⟩ (metX0_revision_t (r := y1) hS hA (by omega)) (cwV 1 hts (lw_V q737 q739 qs4 q87 q740) rfl rfl rfl (by decide +kernel) ⟨Nat.le_of_ble_eq_true rfl, Nat.le_of_ble_eq_true rfl⟩) (g_preV hG (g_recv hG (hG.vo hx0) (ci := 0) rfl)) rfl rfl hl.1 rfl (lv_room (Nat.le_of_ble_eq_true rfl)) dX0_through_9 ⟨by show _ ≤ 600; omega, by show _ ≤ 13500; omega⟩) hG (fun r_4 F_5 V_6 ws_ H locs hp hG => ?_)
      obtain ⟨rfl, rfl, rfl, rfl⟩ := hp
      have hG : gW X F V (Z) s H locs := hG
      have hlny1 : aLn a ((y1 : Nat) : Int) = ((wTx (aWd a) y1).length : Nat) := rfl
      have h24y1 := (hK.tx (r := y1) (by omega)).1
      refine lv_astore (lv' := [(5, .ref (ra y1)), (4, .ref (ra v1)), (0, .ref x), (1, .int (zI (v1 : Int))), (2, .int (zI (y1 : Int))), (3, .int (zI i))]) hx hb dX0_through_12 hl (by decide) rfl (fun ls hl => ?_)
      refine lv_aload hx hb dX0_through_14 (lv_at hl 1 rfl) ?_
      refine lv_iload_n hx hb dX0_through_16 rfl (lv_at hl 5 rfl) ?_
      by_cases hci : 0 ≤ i ∧ i < ((wTx (aWd a) v1).length : Int)
      · refine g_cv (va_runS (As := [.ref (ra v1), .int (zI i)]) (rest := []) ⟨hx, hb, hml, hown, hts⟩ (metX0_mustLine_t (hR v1 (by omega)).1 (hR v1 (by omega)).2 (by omega) (by omega)) (va_cwS 2 hts (lw_S q1751 q1752 q87 q1753) rfl rfl rfl (by decide +kernel) ⟨Nat.le_of_ble_eq_true rfl, Nat.le_of_ble_eq_true rfl⟩) (g_preS hG) rfl rfl hl.1 rfl (lv_room (Nat.le_of_ble_eq_true rfl)) dX0_through_17 ⟨by show _ ≤ 600; omega, by show _ ≤ 13500; omega⟩) hG (fun F_8 V_9 ws_ H locs hp hG => ?_)
        obtain ⟨rfl, rfl, rfl⟩ := hp
        have hG : gW X F V (Z) s H locs := hG
        obtain ⟨i1, rfl⟩ : ∃ z : Nat, i = (z : Int) := ⟨i.toNat, by omega⟩
        refine lv_aload hx hb dX0_through_20 (lv_at hl 0 rfl) ?_
        refine lv_aload hx hb dX0_through_22 (lv_at hl 1 rfl) ?_
        rcases hb9 : beh (wFo (aWd a)) y1 v1 with _ | n
        · refine g_xv (vx_runS (As := [.ref (ra y1), .ref (ra v1)]) (rest := []) ⟨hx, hb, hml, hown, hts⟩ (metX0_mustBehind_f hR hK (by omega) (by omega) hb9) (va_cwS 2 hts (lw_S q1949 q1950 q87 q1951) rfl rfl rfl (by decide +kernel) ⟨Nat.le_of_ble_eq_true rfl, Nat.le_of_ble_eq_true rfl⟩) (g_preS hG) rfl rfl hl.1 rfl (lv_room (Nat.le_of_ble_eq_true rfl)) dX0_through_24 ⟨by show _ ≤ 600; omega, by show _ ≤ 13500; omega⟩) hG (fun E9 ce9 q9 Fx_13 Vx_14 ws_ H locs hpx hG hce => ?_) (fun F_11 V_12 ws_ H locs hp hG => ?_)
          · obtain ⟨rfl, hle_Fx_13, hq9, rfl, rfl⟩ := hpx
            have hG : gW X Fx_13 V (Z) s H locs := hG
            refine g_catch (name := "LineRemarks$Refused") hown htab [] ⟨0, 107, 108, 21⟩ [] rfl (fun z9 hz9 => absurd hz9 List.not_mem_nil) (by decide) (by decide) (hts _ q410) (hG.1.2.1.1 _ qn498) hce ?_
            refine lv_astore (lv' := [(4, .ref q9), (5, .ref (ra y1)), (0, .ref x), (1, .int (zI (v1 : Int))), (2, .int (zI (y1 : Int))), (3, .int (zI (i1 : Int)))]) hx hb dX0_through_108 hl (by decide) rfl (fun ls hl => ?_)
            refine lv_aload_n hx hb dX0_through_110 rfl (lv_at hl 2 rfl) ?_
            refine lv_aload hx hb dX0_through_111 (lv_at hl 0 rfl) ?_
            refine g_ci (va_runV (As := [.ref q9]) (rest := []) ⟨hx, hb, hml, hown, hts⟩ (metX0_refused (k := 6) (hS.mono hle_Fx_13) hA hq9 (by decide)) (cwV 1 hts (lw_V q589 q591 qs2 q87 q592) rfl rfl rfl (by decide +kernel) ⟨Nat.le_of_ble_eq_true rfl, Nat.le_of_ble_eq_true rfl⟩) (g_preV hG (g_recv hG (hG.vo hx0) (ci := 0) rfl)) rfl rfl hl.1 rfl (lv_room (Nat.le_of_ble_eq_true rfl)) dX0_through_113 ⟨by show _ ≤ 600; omega, by show _ ≤ 13500; omega⟩) hG (fun r_15 F_16 V_17 ws_ H locs hp hG => ?_)
            obtain ⟨rfl, rfl, hS9, rfl⟩ := hp
            have hG : gW X Fx_13 V_17 (Z) s H locs := hG
            refine lv_bipush (v := zI 10) hx hb dX0_through_116 (by decide +kernel) ?_
            refine g_isub hx hb dX0_through_118 ?_
            refine vx_ret ?_
            exact g_iret hx hb hr hlocks hG (by have e9 : opThrough a (v1 : Int) (y1 : Int) (i1 : Int) = aNoT a 6 := (by unfold opThrough; rw [if_neg (by omega), if_neg (by omega), show beh (wFo (aWd a)) ((y1 : Nat) : Int).toNat ((v1 : Nat) : Int).toNat = none from hb9]; first | done | rfl); rw [e9]; exact ⟨hle_Fx_13, rfl, hS9.ex, rfl⟩) ⟨by show _ ≤ 600; omega, by show _ ≤ 13500; omega⟩ dX0_through_119
          exact hp.elim
        · refine g_cv (va_runS (As := [.ref (ra y1), .ref (ra v1)]) (rest := []) ⟨hx, hb, hml, hown, hts⟩ (metX0_mustBehind_t hR hK (by omega) (by omega) hb9) (va_cwS 2 hts (lw_S q1949 q1950 q87 q1951) rfl rfl rfl (by decide +kernel) ⟨Nat.le_of_ble_eq_true rfl, Nat.le_of_ble_eq_true rfl⟩) (g_preS hG) rfl rfl hl.1 rfl (lv_room (Nat.le_of_ble_eq_true rfl)) dX0_through_24 ⟨by show _ ≤ 600; omega, by show _ ≤ 13500; omega⟩) hG (fun F_19 V_20 ws_ H locs hp hG => ?_)
          obtain ⟨rfl, rfl, rfl⟩ := hp
          have hG : gW X F V (Z) s H locs := hG
          obtain ⟨hle, hfo, hend⟩ := beh_anc hK.fo n y1 v1 hb9
          have hn16 := hle n (Nat.le_refl n)
          have hru := hK.ru
          refine lv_iload_n hx hb dX0_through_27 rfl (lv_at hl 5 rfl) ?_
          refine lv_istore (lv' := [(6, .int (zI (i1 : Int))), (5, .ref (ra y1)), (4, .ref (ra v1)), (0, .ref x), (1, .int (zI (v1 : Int))), (2, .int (zI (y1 : Int))), (3, .int (zI (i1 : Int)))]) hx hb dX0_through_28 hl (by decide) rfl (fun ls hl => ?_)
          refine lv_aload hx hb dX0_through_30 (lv_at hl 1 rfl) ?_
          refine lv_aload hx hb dX0_through_32 (lv_at hl 2 rfl) ?_
          refine g_cr (va_runV (As := [.ref (ra v1)]) (rest := []) ⟨hx, hb, hml, hown, hts⟩ (metX14_since hR hK (by omega) (by omega) hb9) (cwV 1 hts (lw_V q1956 q1957 q1958 q140 q1959) rfl rfl rfl (by decide +kernel) ⟨Nat.le_of_ble_eq_true rfl, Nat.le_of_ble_eq_true rfl⟩) (g_preV hG (rev_recv hG (hR y1 (by omega)).1)) rfl rfl hl.1 rfl (lv_room (Nat.le_of_ble_eq_true rfl)) dX0_through_34 ⟨by show _ ≤ 600; omega, by show _ ≤ 13500; omega⟩) hG (fun dq F_21 V_22 ws_ H locs hp hG => ?_)
          obtain ⟨rfl, rfl, es, hq0, fq, hdq, rfl⟩ := hp
          have hG : gW X F V ((dq, oB 30 [.ref es, .int (zI (hq0 : Int)), .int (zI 0)]) :: (es, aR (gT X 10) 17 fq) :: Z) s H locs := hG
          obtain ⟨L, hL⟩ : ∃ L, L = sncL (wFo (aWd a)) ra y1 (n + 1) := ⟨_, rfl⟩
          rw [← hL] at hdq
          have hlen : L.length = n + 1 := by rw [hL]; exact sncL_len _ _ _ _
          refine g_cr (va_runV (As := []) (rest := []) ⟨hx, hb, hml, hown, hts⟩ (metJ36_iterator hdq) (cwV 0 hts (lw_V q1998 q1999 q2000 q139 q2001) rfl rfl rfl (by decide +kernel) ⟨Nat.le_of_ble_eq_true rfl, Nat.le_of_ble_eq_true rfl⟩) (g_preV hG (g_recv hG (hG.at 0 rfl) (ci := 30) rfl)) rfl rfl hl.1 rfl (lv_room (Nat.le_of_ble_eq_true rfl)) dX0_through_37 ⟨by show _ ≤ 600; omega, by show _ ≤ 13500; omega⟩) hG (fun it F_23 V_24 ws_ H locs hp hG => ?_)
          obtain ⟨rfl, rfl, rfl⟩ := hp
          have hG : gW X F V ((it, oB 31 [.int (zI (hq0 : Int)), .int (zI (L.length : Int)), .int (zI (-1)), .ref dq]) :: (dq, oB 30 [.ref es, .int (zI (hq0 : Int)), .int (zI 0)]) :: (es, aR (gT X 10) 17 fq) :: Z) s H locs := hG
          refine lv_astore (lv' := [(7, .ref it), (6, .int (zI (i1 : Int))), (5, .ref (ra y1)), (4, .ref (ra v1)), (0, .ref x), (1, .int (zI (v1 : Int))), (2, .int (zI (y1 : Int))), (3, .int (zI (i1 : Int)))]) hx hb dX0_through_40 hl (by decide) rfl (fun ls hl => ?_)
          have hG : gW X F V ((it, oB 31 [.int (zI (((hq0 + 0) % 17 : Nat) : Int)), .int (zI ((L.length - 0 : Nat) : Int)), .int (zI (-1)), .ref dq]) :: (dq, oB 30 [.ref es, .int (zI (hq0 : Int)), .int (zI 0)]) :: (es, aR (gT X 10) 17 fq) :: Z) s H locs := by rw [show (hq0 + 0) % 17 = hq0 from Nat.mod_eq_of_lt hdq.1, Nat.sub_zero]; exact hG
          refine g_loopA (fun mz H locs ls => ∃ (j : Nat) (F1 : gF) (o : Option Nat) (la8 : Int), (j ≤ n + 1 ∧ mz = n + 1 - j ∧ gLe F F1 ∧ o = thr (aWd a) y1 i1 n (j - 1)) ∧ gW X F1 V ((it, oB 31 [.int (zI (((hq0 + j) % 17 : Nat) : Int)), .int (zI ((L.length - j : Nat) : Int)), .int (zI la8), .ref dq]) :: (dq, oB 30 [.ref es, .int (zI (hq0 : Int)), .int (zI 0)]) :: (es, aR (gT X 10) 17 fq) :: Z) s H locs ∧ lv_has ls 9 [(0, .ref x), (4, .ref (ra v1)), (5, .ref (ra y1)), (6, .int (zI (oI o))), (7, .ref it)]) (n + 1 - 0) 33 790 600 13500 ⟨0, F, (some i1), (-1), ⟨by omega, rfl, gLe.rfl (V := V), rfl⟩, hG, (lv_sub hl [4, 3, 2, 1, 0] rfl)⟩ ⟨by omega, by omega⟩ (fun mz ihA H locs ls cells slots hroom hI => ?_)
          obtain ⟨j, F1, o, la8, ⟨hj, hmz, hle_F1, ho⟩, hG, hl⟩ := hI
          refine lv_aload hx hb dX0_through_42 (lv_at hl 4 rfl) ?_
          refine g_Fi (va_runF (C := "java/util/ArrayDeque$DeqIterator") (g_cls hG (ci := 31) rfl) (As := []) (rest := []) ⟨hx, hb, hml, hown, hts⟩ (metJ39_hasNext (n := L.length - j) (by omega)) (va_cwF 0 hts (lw_F q1472 q1486 q1488 q144 q1490) rfl rfl rfl (hG.1.2.1.2.2.1 _ qf13) (by decide +kernel) ⟨Nat.le_of_ble_eq_true rfl, Nat.le_of_ble_eq_true rfl⟩) (g_preV hG (g_recv hG (hG.at 0 rfl) (ci := 31) rfl)) rfl rfl hl.1 rfl (lv_room (Nat.le_of_ble_eq_true rfl)) dX0_through_44 ⟨by show _ ≤ 600; omega, by show _ ≤ 13500; omega⟩) hG (fun r_25 F_26 V_27 ws_ H locs hp hG => ?_)
          obtain ⟨rfl, rfl, rfl, rfl⟩ := hp
          have hG : gW X F1 V ((it, oB 31 [.int (zI (((hq0 + j) % 17 : Nat) : Int)), .int (zI ((L.length - j : Nat) : Int)), .int (zI la8), .ref dq]) :: (dq, oB 30 [.ref es, .int (zI (hq0 : Int)), .int (zI 0)]) :: (es, aR (gT X 10) 17 fq) :: Z) s H locs := hG
          by_cases hj0 : 0 < L.length - j
          · refine g_topz (y := 1) (by rw [decide_eq_true hj0]; rfl) ?_
            refine g_eq (tgt := 105) hx hb dX0_through_49 (by decide) (by decide) (fun hq => ?_) (fun hq => ?_)
            · exfalso; omega
            · refine lv_aload hx hb dX0_through_52 (lv_at hl 4 rfl) ?_
              have hnx : L.getD j 0 = ra (anc (wFo (aWd a)) (n - j) y1) := by rw [hL, sncL_get (by omega), show n + 1 - 1 - j = n - j by omega]
              have hlej := hle (n - j) (by omega)
              refine g_Fr (va_runF (C := "java/util/ArrayDeque$DeqIterator") (g_cls hG (ci := 31) rfl) (As := []) (rest := []) ⟨hx, hb, hml, hown, hts⟩ (metJ39_next (k := j) hdq (by omega)) (va_cwF 0 hts (lw_F q1513 q1628 q1630 q144 q1632) rfl rfl rfl (hG.1.2.1.2.2.1 _ qf14) (by decide +kernel) ⟨Nat.le_of_ble_eq_true rfl, Nat.le_of_ble_eq_true rfl⟩) (g_preV hG (g_recv hG (hG.at 0 rfl) (ci := 31) rfl)) rfl rfl hl.1 rfl (lv_room (Nat.le_of_ble_eq_true rfl)) dX0_through_54 ⟨by show _ ≤ 600; omega, by show _ ≤ 13500; omega⟩) hG (fun r_28 F_29 V_30 ws_ H locs hp hG => ?_)
              obtain ⟨hu, rfl, rfl, rfl⟩ := hp
              rw [hnx] at hu
              subst hu
              have hG : gW X F1 V ((it, oB 31 [.int (zI (((hq0 + (j + 1)) % 17 : Nat) : Int)), .int (zI ((L.length - (j + 1) : Nat) : Int)), .int (zI (((hq0 + j) % 17 : Nat) : Int)), .ref dq]) :: (dq, oB 30 [.ref es, .int (zI (hq0 : Int)), .int (zI 0)]) :: (es, aR (gT X 10) 17 fq) :: Z) s H locs := hG
              have hR1 := hR.mono hle_F1
              refine va_castE hx hb hown (hts _ q2028) (rev_recv hG (hR1 (anc (wFo (aWd a)) (n - j) y1) (by omega)).1) dX0_through_59 ?_
              refine lv_astore (lv' := [(8, .ref (ra (anc (wFo (aWd a)) (n - j) y1))), (0, .ref x), (4, .ref (ra v1)), (5, .ref (ra y1)), (6, .int (zI (oI o))), (7, .ref it)]) hx hb dX0_through_62 hl (by decide) rfl (fun ls hl => ?_)
              refine lv_aload hx hb dX0_through_64 (lv_at hl 0 rfl) ?_
              refine lv_aload hx hb dX0_through_66 (lv_at hl 2 rfl) ?_
              refine lv_acmp_eq (rx := (some (ra (anc (wFo (aWd a)) (n - j) y1)))) (ry := (some (ra v1))) (tgt := 77) hx hb dX0_through_68 (by decide) (fun h2 => ?_) (fun h2 => ?_)
              · have hj00 : j = 0 := by have := (anc_eq hK.fo hb9 (show n - j ≤ n by omega)).mp (hR.inj (by omega) (by omega) (Option.some.inj h2)); omega
                refine lv_iload hx hb dX0_through_77 (lv_at hl 4 rfl) ?_
                refine lv_goto (tgt := 100) hx hb dX0_through_79 (by decide) ?_
                refine lv_istore (lv' := [(6, .int (zI (oI o))), (8, .ref (ra (anc (wFo (aWd a)) (n - j) y1))), (0, .ref x), (4, .ref (ra v1)), (5, .ref (ra y1)), (7, .ref it)]) hx hb dX0_through_100 hl (by decide) rfl (fun ls hl => ?_)
                refine lv_goto (tgt := 42) hx hb dX0_through_102 (by decide) ?_
                exact ihA (n + 1 - (j + 1)) (by omega) H locs ls _ _ (by omega) ⟨(j + 1), F1, o, _, ⟨by omega, rfl, hle_F1, by rw [ho, hj00]⟩, hG, (lv_sub hl [2, 3, 4, 0, 5] rfl)⟩
              · have hj00 : j ≠ 0 := fun q => h2 (by rw [(anc_eq hK.fo hb9 (show n - j ≤ n by omega)).mpr (by omega)])
                obtain ⟨d, rfl⟩ : ∃ z, j = z + 1 := ⟨j - 1, by omega⟩
                rw [Nat.add_sub_cancel] at ho
                have hfd : wFo (aWd a) (anc (wFo (aWd a)) (n - (d + 1)) y1) = some (anc (wFo (aWd a)) (n - d) y1) := by have := hfo (n - (d + 1)) (by omega); rw [show n - (d + 1) + 1 = n - d by omega] at this; exact this
                rcases ho9 : o with _ | c9
                · have hl : lv_has ls 9 [(8, .ref (ra (anc (wFo (aWd a)) (n - (d + 1)) y1))), (0, .ref x), (4, .ref (ra v1)), (5, .ref (ra y1)), (6, .int (zI (-1))), (7, .ref it)] := by rw [ho9] at hl; exact hl
                  refine lv_iload hx hb dX0_through_71 (lv_at hl 4 rfl) ?_
                  refine lv_iconst (v := zI (-1)) hx hb dX0_through_73 (by decide +kernel) ?_
                  refine g_cne (tgt := 82) hx hb dX0_through_74 (by decide) (by omega) (fun hq => ?_) (fun hq => ?_)
                  · exfalso; omega
                  · refine lv_iload hx hb dX0_through_77 (lv_at hl 4 rfl) ?_
                    refine lv_goto (tgt := 100) hx hb dX0_through_79 (by decide) ?_
                    refine lv_istore (lv' := [(6, .int (zI (-1))), (8, .ref (ra (anc (wFo (aWd a)) (n - (d + 1)) y1))), (0, .ref x), (4, .ref (ra v1)), (5, .ref (ra y1)), (7, .ref it)]) hx hb dX0_through_100 hl (by decide) rfl (fun ls hl => ?_)
                    refine lv_goto (tgt := 42) hx hb dX0_through_102 (by decide) ?_
                    have hl : lv_has ls 9 [(6, .int (zI (oI none))), (8, .ref (ra (anc (wFo (aWd a)) (n - (d + 1)) y1))), (0, .ref x), (4, .ref (ra v1)), (5, .ref (ra y1)), (7, .ref it)] := by rw [show oI none = -1 from rfl]; exact hl
                    have ht8 : (none : Option Nat) = thr (aWd a) y1 i1 n (d + 1) := thr_n9 (ho9.symm.trans ho)
                    have ht9 : (none : Option Nat) = thr (aWd a) y1 i1 n (d + 1 + 1 - 1) := ht8
                    have r5 : n + 1 - (d + 1 + 1) < mz := by omega
                    have r6 : d + 1 + 1 ≤ n + 1 := by omega
                    exact ihA (n + 1 - (d + 1 + 1)) r5 H locs ls _ _ (room_S hroom r5) ⟨(d + 1 + 1), F1, none, _, ⟨r6, rfl, hle_F1, ht9⟩, hG, (lv_sub hl [2, 3, 4, 0, 5] rfl)⟩
                · have hc9 : c9 < (wTx (aWd a) (anc (wFo (aWd a)) (n - d) y1)).length := thr_ln (w := aWd a) (y := y1) (i := i1) (n := n) (by rw [hend]; omega) d c9 (by rw [← ho, ho9])
                  have hlB0 := hle (n - d) (by omega)
                  have htB := (hK.tx (r := (anc (wFo (aWd a)) (n - d) y1)) (by omega)).1
                  have htB1 := (hK.tx (r := (anc (wFo (aWd a)) (n - (d + 1)) y1)) (by omega)).1
                  have hl : lv_has ls 9 [(8, .ref (ra (anc (wFo (aWd a)) (n - (d + 1)) y1))), (0, .ref x), (4, .ref (ra v1)), (5, .ref (ra y1)), (6, .int (zI (c9 : Int))), (7, .ref it)] := by rw [ho9] at hl; exact hl
                  refine lv_iload hx hb dX0_through_71 (lv_at hl 4 rfl) ?_
                  refine lv_iconst (v := zI (-1)) hx hb dX0_through_73 (by decide +kernel) ?_
                  refine g_cne (tgt := 82) hx hb dX0_through_74 (by decide) (by omega) (fun h4 => ?_) (fun h4 => ?_)
                  · refine lv_aload hx hb dX0_through_82 (lv_at hl 0 rfl) ?_
                    refine lv_aload_n hx hb dX0_through_84 rfl (lv_at hl 1 rfl) ?_
                    refine g_get (ci := 0) hx hb hts in_X0 hown hG (hG.vo hx0) rfl 4 (Nat.le_of_ble_eq_true rfl) (hts _ q388) (fun _ h9 => h9) rfl dX0_through_85 ?_
                    refine g_get (ci := 2) hx hb hts in_X2 hown hG (hG.vo hw0) rfl 2 (Nat.le_of_ble_eq_true rfl) (hts _ q339) (fun _ h9 => h9) rfl dX0_through_88 ?_
                    refine g_cr (va_runV (As := [.int (zI (wRun (aWd a) : Int))]) (rest := []) ⟨hx, hb, hml, hown, hts⟩ (metX14_fromFormer (t := (anc (wFo (aWd a)) (n - (d + 1)) y1)) hR1 hK (by omega) hfd ⟨hru.1, hru.2.1⟩) (cwV 1 hts (lw_V q2029 q2030 q2031 q140 q2032) rfl rfl rfl (by decide +kernel) ⟨Nat.le_of_ble_eq_true rfl, Nat.le_of_ble_eq_true rfl⟩) (g_preV hG (rev_recv hG (hR1 (anc (wFo (aWd a)) (n - (d + 1)) y1) (by omega)).1)) rfl rfl hl.1 rfl (lv_room (Nat.le_of_ble_eq_true rfl)) dX0_through_91 ⟨by show _ ≤ 600; omega, by show _ ≤ 13500; omega⟩) hG (fun mt G2 V_31 ws_ H locs hp hG => ?_)
                    obtain ⟨hle_G2, rfl, hmt, rfl⟩ := hp
                    have hG : gW X G2 V ((it, oB 31 [.int (zI (((hq0 + ((d + 1) + 1)) % 17 : Nat) : Int)), .int (zI ((L.length - ((d + 1) + 1) : Nat) : Int)), .int (zI (((hq0 + (d + 1)) % 17 : Nat) : Int)), .ref dq]) :: (dq, oB 30 [.ref es, .int (zI (hq0 : Int)), .int (zI 0)]) :: (es, aR (gT X 10) 17 fq) :: Z) s H locs := hG
                    have hmZ := hmt
                    obtain ⟨pl, fp, w5, w6, w7, w8, hm1, hm2, hm3⟩ := hmZ
                    refine g_get (ci := 13) hx hb hts in_X15 hown hG (hG.fz hm1) rfl 2 (Nat.le_of_ble_eq_true rfl) (hts _ q1913) (fun _ h9 => h9) rfl dX0_through_94 ?_
                    refine lv_iload hx hb dX0_through_97 (lv_at hl 4 rfl) ?_
                    refine g_iald hx hb hG (hG.fz hm2) c9 ⟨rfl, by omega, by omega⟩ (v := zI (oI (mPlace (wTx (aWd a) (anc (wFo (aWd a)) (n - d) y1)) (wTx (aWd a) (anc (wFo (aWd a)) (n - (d + 1)) y1)) (wRun (aWd a)) c9))) (hm3 c9 (by omega)) dX0_through_99 ?_
                    refine lv_istore (lv' := [(6, .int (zI (oI (mPlace (wTx (aWd a) (anc (wFo (aWd a)) (n - d) y1)) (wTx (aWd a) (anc (wFo (aWd a)) (n - (d + 1)) y1)) (wRun (aWd a)) c9)))), (8, .ref (ra (anc (wFo (aWd a)) (n - (d + 1)) y1))), (0, .ref x), (4, .ref (ra v1)), (5, .ref (ra y1)), (7, .ref it)]) hx hb dX0_through_100 hl (by decide) rfl (fun ls hl => ?_)
                    refine lv_goto (tgt := 42) hx hb dX0_through_102 (by decide) ?_
                    have r5 : n + 1 - (d + 1 + 1) < mz := by omega
                    have r6 : d + 1 + 1 ≤ n + 1 := by omega
                    exact ihA (n + 1 - (d + 1 + 1)) r5 H locs ls _ _ (room_U hroom r5) ⟨(d + 1 + 1), G2, (mPlace (wTx (aWd a) (anc (wFo (aWd a)) (n - d) y1)) (wTx (aWd a) (anc (wFo (aWd a)) (n - (d + 1)) y1)) (wRun (aWd a)) c9), _, ⟨r6, rfl, hle_F1.tr hle_G2, by rw [Nat.add_sub_cancel]; exact thr_s9 (ho9.symm.trans ho) hfd⟩, hG, (lv_sub hl [2, 3, 4, 0, 5] rfl)⟩
                  · exfalso; omega
          · refine g_topz (y := 0) (by rw [decide_eq_false (by omega)]; rfl) ?_
            have hjn : j = n + 1 := by omega
            subst hjn
            rw [Nat.add_sub_cancel] at ho
            refine g_eq (tgt := 105) hx hb dX0_through_49 (by decide) (by decide) (fun hq => ?_) (fun hq => ?_)
            · refine lv_iload hx hb dX0_through_105 (lv_at hl 3 rfl) ?_
              have hG : gW X F1 V ((dq, oB 30 [.ref es, .int (zI (hq0 : Int)), .int (zI 0)]) :: (es, aR (gT X 10) 17 fq) :: Z) s _ _ := hG.drop 0 rfl rfl
              have hG : gW X F1 V ((es, aR (gT X 10) 17 fq) :: Z) s _ _ := hG.drop 0 rfl rfl
              have hG : gW X F1 V (Z) s _ _ := hG.drop 0 rfl rfl
              refine vx_ret ?_
              exact g_iret hx hb hr hlocks hG (by have e9 : opThrough a (v1 : Int) (y1 : Int) (i1 : Int) = (oI o, a) := (by unfold opThrough; rw [if_neg (by omega), if_neg (by omega), show beh (wFo (aWd a)) ((y1 : Nat) : Int).toNat ((v1 : Nat) : Int).toNat = some n from hb9]; first | done | exact congrArg (fun z => (oI z, a)) ho.symm); rw [e9]; exact ⟨hle_F1, rfl, ((hS.mono hle_F1)).ex, rfl⟩) ⟨by show _ ≤ 600; omega, by show _ ≤ 13500; omega⟩ dX0_through_107
            · exfalso; omega
      · refine g_xv (vx_runS (As := [.ref (ra v1), .int (zI i)]) (rest := []) ⟨hx, hb, hml, hown, hts⟩ (metX0_mustLine_f (hR v1 (by omega)).1 (hR v1 (by omega)).2 (by omega) (by omega)) (va_cwS 2 hts (lw_S q1751 q1752 q87 q1753) rfl rfl rfl (by decide +kernel) ⟨Nat.le_of_ble_eq_true rfl, Nat.le_of_ble_eq_true rfl⟩) (g_preS hG) rfl rfl hl.1 rfl (lv_room (Nat.le_of_ble_eq_true rfl)) dX0_through_17 ⟨by show _ ≤ 600; omega, by show _ ≤ 13500; omega⟩) hG (fun E9 ce9 q9 Fx_35 Vx_36 ws_ H locs hpx hG hce => ?_) (fun F_33 V_34 ws_ H locs hp hG => ?_)
        · obtain ⟨rfl, hle_Fx_35, hq9, rfl, rfl⟩ := hpx
          have hG : gW X Fx_35 V (Z) s H locs := hG
          refine g_catch (name := "LineRemarks$Refused") hown htab [] ⟨0, 107, 108, 21⟩ [] rfl (fun z9 hz9 => absurd hz9 List.not_mem_nil) (by decide) (by decide) (hts _ q410) (hG.1.2.1.1 _ qn498) hce ?_
          refine lv_astore (lv' := [(4, .ref q9), (5, .ref (ra y1)), (0, .ref x), (1, .int (zI (v1 : Int))), (2, .int (zI (y1 : Int))), (3, .int (zI i))]) hx hb dX0_through_108 hl (by decide) rfl (fun ls hl => ?_)
          refine lv_aload_n hx hb dX0_through_110 rfl (lv_at hl 2 rfl) ?_
          refine lv_aload hx hb dX0_through_111 (lv_at hl 0 rfl) ?_
          refine g_ci (va_runV (As := [.ref q9]) (rest := []) ⟨hx, hb, hml, hown, hts⟩ (metX0_refused (k := 5) (hS.mono hle_Fx_35) hA hq9 (by decide)) (cwV 1 hts (lw_V q589 q591 qs2 q87 q592) rfl rfl rfl (by decide +kernel) ⟨Nat.le_of_ble_eq_true rfl, Nat.le_of_ble_eq_true rfl⟩) (g_preV hG (g_recv hG (hG.vo hx0) (ci := 0) rfl)) rfl rfl hl.1 rfl (lv_room (Nat.le_of_ble_eq_true rfl)) dX0_through_113 ⟨by show _ ≤ 600; omega, by show _ ≤ 13500; omega⟩) hG (fun r_37 F_38 V_39 ws_ H locs hp hG => ?_)
          obtain ⟨rfl, rfl, hS9, rfl⟩ := hp
          have hG : gW X Fx_35 V_39 (Z) s H locs := hG
          refine lv_bipush (v := zI 10) hx hb dX0_through_116 (by decide +kernel) ?_
          refine g_isub hx hb dX0_through_118 ?_
          refine vx_ret ?_
          exact g_iret hx hb hr hlocks hG (by have e9 : opThrough a (v1 : Int) (y1 : Int) i = aNoT a 5 := (by unfold opThrough; rw [if_neg (by omega), if_pos (by omega)]; first | done | rfl); rw [e9]; exact ⟨hle_Fx_35, rfl, hS9.ex, rfl⟩) ⟨by show _ ≤ 600; omega, by show _ ≤ 13500; omega⟩ dX0_through_119
        exact hp.elim
    · refine g_xr (vx_runV (As := [.int (zI y)]) (rest := []) ⟨hx, hb, hml, hown, hts⟩ (metX0_revision_f hS hA (by omega)) (cwV 1 hts (lw_V q737 q739 qs4 q87 q740) rfl rfl rfl (by decide +kernel) ⟨Nat.le_of_ble_eq_true rfl, Nat.le_of_ble_eq_true rfl⟩) (g_preV hG (g_recv hG (hG.vo hx0) (ci := 0) rfl)) rfl rfl hl.1 rfl (lv_room (Nat.le_of_ble_eq_true rfl)) dX0_through_9 ⟨by show _ ≤ 600; omega, by show _ ≤ 13500; omega⟩) hG (fun E9 ce9 q9 Fx_43 Vx_44 ws_ H locs hpx hG hce => ?_) (fun r_40 F_41 V_42 ws_ H locs hp hG => ?_)
      · obtain ⟨rfl, hle_Fx_43, hq9, rfl, rfl⟩ := hpx
        have hG : gW X Fx_43 V (Z) s H locs := hG
        refine g_catch (name := "LineRemarks$Refused") hown htab [] ⟨0, 107, 108, 21⟩ [] rfl (fun z9 hz9 => absurd hz9 List.not_mem_nil) (by decide) (by decide) (hts _ q410) (hG.1.2.1.1 _ qn498) hce ?_
        refine lv_astore (lv' := [(4, .ref q9), (0, .ref x), (1, .int (zI (v1 : Int))), (2, .int (zI y)), (3, .int (zI i))]) hx hb dX0_through_108 hl (by decide) rfl (fun ls hl => ?_)
        refine lv_aload_n hx hb dX0_through_110 rfl (lv_at hl 1 rfl) ?_
        refine lv_aload hx hb dX0_through_111 (lv_at hl 0 rfl) ?_
        refine g_ci (va_runV (As := [.ref q9]) (rest := []) ⟨hx, hb, hml, hown, hts⟩ (metX0_refused (k := 1) (hS.mono hle_Fx_43) hA hq9 (by decide)) (cwV 1 hts (lw_V q589 q591 qs2 q87 q592) rfl rfl rfl (by decide +kernel) ⟨Nat.le_of_ble_eq_true rfl, Nat.le_of_ble_eq_true rfl⟩) (g_preV hG (g_recv hG (hG.vo hx0) (ci := 0) rfl)) rfl rfl hl.1 rfl (lv_room (Nat.le_of_ble_eq_true rfl)) dX0_through_113 ⟨by show _ ≤ 600; omega, by show _ ≤ 13500; omega⟩) hG (fun r_45 F_46 V_47 ws_ H locs hp hG => ?_)
        obtain ⟨rfl, rfl, hS9, rfl⟩ := hp
        have hG : gW X Fx_43 V_47 (Z) s H locs := hG
        refine lv_bipush (v := zI 10) hx hb dX0_through_116 (by decide +kernel) ?_
        refine g_isub hx hb dX0_through_118 ?_
        refine vx_ret ?_
        exact g_iret hx hb hr hlocks hG (by have e9 : opThrough a (v1 : Int) y i = aNoT a 1 := (by unfold opThrough; rw [if_pos (by omega)]; first | done | rfl); rw [e9]; exact ⟨hle_Fx_43, rfl, hS9.ex, rfl⟩) ⟨by show _ ≤ 600; omega, by show _ ≤ 13500; omega⟩ dX0_through_119
      exact hp.elim
  · refine g_xr (vx_runV (As := [.int (zI v)]) (rest := []) ⟨hx, hb, hml, hown, hts⟩ (metX0_revision_f hS hA (by omega)) (cwV 1 hts (lw_V q737 q739 qs4 q87 q740) rfl rfl rfl (by decide +kernel) ⟨Nat.le_of_ble_eq_true rfl, Nat.le_of_ble_eq_true rfl⟩) (g_preV hG (g_recv hG (hG.vo hx0) (ci := 0) rfl)) rfl rfl hl.1 rfl (lv_room (Nat.le_of_ble_eq_true rfl)) dX0_through_2 ⟨by show _ ≤ 600; omega, by show _ ≤ 13500; omega⟩) hG (fun E9 ce9 q9 Fx_51 Vx_52 ws_ H locs hpx hG hce => ?_) (fun r_48 F_49 V_50 ws_ H locs hp hG => ?_)
    · obtain ⟨rfl, hle_Fx_51, hq9, rfl, rfl⟩ := hpx
      have hG : gW X Fx_51 V (Z) s H locs := hG
      refine g_catch (name := "LineRemarks$Refused") hown htab [] ⟨0, 107, 108, 21⟩ [] rfl (fun z9 hz9 => absurd hz9 List.not_mem_nil) (by decide) (by decide) (hts _ q410) (hG.1.2.1.1 _ qn498) hce ?_
      refine lv_astore (lv' := [(4, .ref q9), (0, .ref x), (1, .int (zI v)), (2, .int (zI y)), (3, .int (zI i))]) hx hb dX0_through_108 hl (by decide) rfl (fun ls hl => ?_)
      refine lv_aload_n hx hb dX0_through_110 rfl (lv_at hl 1 rfl) ?_
      refine lv_aload hx hb dX0_through_111 (lv_at hl 0 rfl) ?_
      refine g_ci (va_runV (As := [.ref q9]) (rest := []) ⟨hx, hb, hml, hown, hts⟩ (metX0_refused (k := 1) (hS.mono hle_Fx_51) hA hq9 (by decide)) (cwV 1 hts (lw_V q589 q591 qs2 q87 q592) rfl rfl rfl (by decide +kernel) ⟨Nat.le_of_ble_eq_true rfl, Nat.le_of_ble_eq_true rfl⟩) (g_preV hG (g_recv hG (hG.vo hx0) (ci := 0) rfl)) rfl rfl hl.1 rfl (lv_room (Nat.le_of_ble_eq_true rfl)) dX0_through_113 ⟨by show _ ≤ 600; omega, by show _ ≤ 13500; omega⟩) hG (fun r_53 F_54 V_55 ws_ H locs hp hG => ?_)
      obtain ⟨rfl, rfl, hS9, rfl⟩ := hp
      have hG : gW X Fx_51 V_55 (Z) s H locs := hG
      refine lv_bipush (v := zI 10) hx hb dX0_through_116 (by decide +kernel) ?_
      refine g_isub hx hb dX0_through_118 ?_
      refine vx_ret ?_
      exact g_iret hx hb hr hlocks hG (by have e9 : opThrough a v y i = aNoT a 1 := (by unfold opThrough; rw [if_pos (by omega)]; first | done | rfl); rw [e9]; exact ⟨hle_Fx_51, rfl, hS9.ex, rfl⟩) ⟨by show _ ≤ 600; omega, by show _ ≤ 13500; omega⟩ dX0_through_119
    exact hp.elim

