set_option maxRecDepth 100000
def thS (x : Nat) (D : List Nat) : Prop := ∀ j, j < 32 → x.testBit j = decide (j ∈ D)
theorem thS.set {x one : Nat} {D : List Nat} (h : thS x D) : thS (x ||| 2 ^ one) (D ++ [one]) := fun j hj => by
  rw [tb_or, h j hj]
  by_cases e : one = j
  · subst e; rw [decide_eq_true rfl, Bool.or_true, decide_eq_true (List.mem_append_right _ (List.mem_singleton.mpr rfl))]
  · rw [decide_eq_false e, Bool.or_false]
    by_cases hj : j ∈ D
    · rw [decide_eq_true hj, decide_eq_true (List.mem_append_left _ hj)]
    · rw [decide_eq_false hj, decide_eq_false (fun q => (List.mem_append.mp q).elim hj (fun q => e (List.mem_singleton.mp q).symm))]
/-- the bits of a thread -/
def thB (w : aW) (m x : Nat) : Prop := ∀ j, j < 32 → x.testBit j = thP w m j
theorem thS.done {w : aW} {m x : Nat} {D : List Nat} (h : thS x D) (hK : wOK w) (hI : thI w m D []) : thB w m x := fun j hj => by
  rw [h j hj]
  have := thI_done hK hI j
  cases hq : thP w m j with
  | true => exact decide_eq_true (this.mpr hq)
  | false => exact decide_eq_false (fun q => by have := this.mp q; rw [hq] at this; cases this)
theorem thB_bc {w : aW} {m x : Nat} (h : thB w m x) (hK : wOK w) (hm : m < wM w) : bc x 32 = cnB (aIn w m) (wM w) + 1 := by
  have hM := hK.m
  have hself : aIn w m m = false := by
    cases hq : aIn w m m with
    | false => rfl
    | true =>
      have key : ∀ f y, y ≤ m → y < wM w → inF w m f y = true → False := by
        intro f
        induction f with
        | zero => intro y _ _ h; cases h
        | succ f ih =>
          intro y hy hyM h
          unfold inF at h
          cases hr : rAns (wRk w y) with
          | none => rw [hr] at h; cases h
          | some u =>
            rw [hr] at h
            have hu := hK.ra hyM hr
            rcases Bool.or_eq_true_iff.mp (show (decide (u = m) || inF w m f u) = true from h) with q | q
            · have := of_decide_eq_true q; omega
            · exact ih u (by omega) (by omega) q
      exact (key _ m (Nat.le_refl _) hm hq).elim
  have h1 : ∀ n, n ≤ 32 → bc x n = cnB (thP w m) n := by
    intro n
    induction n with
    | zero => intro _; rfl
    | succ n ih => intro hn; unfold bc cnB; rw [ih (by omega), h n (by omega)]
  have h2 : ∀ n, cnB (thP w m) (wM w + n) = cnB (thP w m) (wM w) := by
    intro n
    induction n with
    | zero => rfl
    | succ n ih =>
      show cnB (thP w m) (wM w + n) + (if thP w m (wM w + n) = true then 1 else 0) = _
      rw [ih, if_neg (show ¬ thP w m (wM w + n) = true by unfold thP; rw [decide_eq_false (by omega), Bool.false_and]; decide)]; rfl
  have h3 : ∀ n, n ≤ wM w → cnB (thP w m) n = cnB (aIn w m) n + (if m < n then 1 else 0) := by
    intro n
    induction n with
    | zero => intro _; rfl
    | succ n ih =>
      intro hn
      unfold cnB
      rw [ih (by omega)]
      unfold thP
      rw [decide_eq_true (show n < wM w by omega), Bool.true_and]
      by_cases e : n = m
      · subst e; rw [decide_eq_true rfl, Bool.true_or, hself, if_pos rfl, if_neg (by omega), if_neg (by decide), if_pos (by omega)]
      · rw [decide_eq_false e, Bool.false_or]
        by_cases hmn : m < n
        · rw [if_pos hmn, if_pos (show m < n + 1 by omega)]; omega
        · rw [if_neg hmn, if_neg (show ¬ m < n + 1 by omega)]; rfl
  rw [h1 32 (Nat.le_refl _), show 32 = wM w + (32 - wM w) by omega, h2, h3 _ (Nat.le_refl _), if_pos hm]
set_option maxHeartbeats 4000000 in
theorem metX2_thread {l : Launch} {X : gX} {F : gF} {V : gV} {Z : va_W} {x : Nat} {wa rv rk st : Nat} {ra la ma : Nat → Nat} {w : aW} (hW : xWd X F V 4 w wa rv rk st ra la ma) (hK : wOK w) (hxm : x < wM w) : Met l yX2_thread (ws_ yX2_thread cX2_thread 6 (some (FieldType.object "java/util/BitSet"))) ({ frames := 3, cells := 4, slots := 30, locals := 66 }) (gP X F V (Z) [.ref wa, .int (zI (x : Int))]) (gQr X (fun u G U ws => F = G ∧ V = U ∧ ∃ (wi : Nat) (iu : Int) (fb : Nat → Int64) (xb : Nat), bsR xb iu fb ∧ thB w x xb ∧ ((u, oB 32 [.ref wi, .int (zI iu), .int (zI 0)]) :: (wi, aL (gT X 1) 1 fb) :: Z) = ws)) 4 30 (gA X) := by
  refine Met.g (by decide) (Nat.le_of_ble_eq_true rfl) ?_
  intro p e s m below meth c ls hx hb hr hts hown hlocks hml hin hG hl
  have hl : lv_has ls 6 [(0, .ref wa), (1, .int (zI (x : Int)))] := hl
  have hMM := hK.m
  obtain ⟨hw0, ⟨fR, hw1, hwR⟩, ⟨fM, hw2, hwM⟩, ⟨fS, hw3, hwS⟩, hR, hMk⟩ := hW
  have hw1 : V 5 = some (rv, aR (gT X 7) 16 fR) := hw1
  have hw2 : V 6 = some (rk, aR (gT X 8) 16 fM) := hw2
  have hw3 : V 7 = some (st, aI (gT X 5) 16 fS) := hw3
  have hwE : V 4 = some (wa, xwE w rv rk st) := hw0
  refine g_new (ci := 32) hx hb hts in_J37 tyJ37 tyJ37_ok hown (hts _ q2232) (hts _ q1791) (hts _ q142) hG rfl (fs := [.null, .int (zI 0), .int (zI 0)]) rfl ⟨Nat.le_of_ble_eq_true rfl, Nat.le_of_ble_eq_true rfl⟩ dX2_thread_0 (fun bi H (hG : gW X F V ((bi, oB 32 [.null, .int (zI 0), .int (zI 0)]) :: Z) s H _) => ?_)
  refine lv_dup hx hb dX2_thread_3 rfl ?_
  refine g_cv (va_runI (As := []) (rest := [.ref bi]) ⟨hx, hb, hml, hown, hts⟩ (metJ37_init) (cwI 0 hts (lw_meth q1794) rfl rfl rfl (hts _ q142) (hts _ q2233) (hts _ q1793) rfl (by decide +kernel) ⟨Nat.le_of_ble_eq_true rfl, Nat.le_of_ble_eq_true rfl⟩) (g_preS hG) rfl rfl hl.1 rfl (lv_room (Nat.le_of_ble_eq_true rfl)) dX2_thread_4 ⟨Nat.le_of_ble_eq_true rfl, Nat.le_of_ble_eq_true rfl⟩) hG (fun F_2 V_3 ws_ H locs hp hG => ?_)
  obtain ⟨rfl, rfl, wi, rfl⟩ := hp
  have hG : gW X F V ((wi, aL (gT X 1) 1 (fun _ => 0)) :: (bi, oB 32 [.ref wi, .int (zI 0), .int (zI 0)]) :: Z) s H locs := hG
  refine lv_astore_n (lv' := [(2, .ref bi), (0, .ref wa), (1, .int (zI (x : Int)))]) hx hb dX2_thread_7 rfl hl (by decide) rfl (fun ls hl => ?_)
  refine g_new (ci := 30) hx hb hts in_J36 tyJ36 tyJ36_ok hown (hts _ q2234) (hts _ q1961) (hts _ q139) hG rfl (fs := [.null, .int (zI 0), .int (zI 0)]) rfl ⟨Nat.le_of_ble_eq_true rfl, Nat.le_of_ble_eq_true rfl⟩ dX2_thread_8 (fun dq H (hG : gW X F V ((dq, oB 30 [.null, .int (zI 0), .int (zI 0)]) :: (wi, aL (gT X 1) 1 (fun _ => 0)) :: (bi, oB 32 [.ref wi, .int (zI 0), .int (zI 0)]) :: Z) s H _) => ?_)
  refine lv_dup hx hb dX2_thread_11 rfl ?_
  refine g_cv (va_runI (As := []) (rest := [.ref dq]) ⟨hx, hb, hml, hown, hts⟩ (metJ36_init) (cwI 0 hts (lw_meth q1964) rfl rfl rfl (hts _ q139) (hts _ q2235) (hts _ q1963) rfl (by decide +kernel) ⟨Nat.le_of_ble_eq_true rfl, Nat.le_of_ble_eq_true rfl⟩) (g_preS hG) rfl rfl hl.1 rfl (lv_room (Nat.le_of_ble_eq_true rfl)) dX2_thread_12 ⟨Nat.le_of_ble_eq_true rfl, Nat.le_of_ble_eq_true rfl⟩) hG (fun F_5 V_6 ws_ H locs hp hG => ?_)
  obtain ⟨rfl, rfl, es, rfl⟩ := hp
  have hG : gW X F V ((es, aR (gT X 10) 17 (fun _ => none)) :: (dq, oB 30 [.ref es, .int (zI 0), .int (zI 0)]) :: (wi, aL (gT X 1) 1 (fun _ => 0)) :: (bi, oB 32 [.ref wi, .int (zI 0), .int (zI 0)]) :: Z) s H locs := hG
  refine lv_astore_n (lv' := [(3, .ref dq), (2, .ref bi), (0, .ref wa), (1, .int (zI (x : Int)))]) hx hb dX2_thread_15 rfl hl (by decide) rfl (fun ls hl => ?_)
  refine lv_aload_n hx hb dX2_thread_16 rfl (lv_at hl 0 rfl) ?_
  refine lv_iload_n hx hb dX2_thread_17 rfl (lv_at hl 3 rfl) ?_
  refine g_cr (va_runS (As := [.int (zI (x : Int))]) (rest := [.ref dq]) ⟨hx, hb, hml, hown, hts⟩ (metJ1_valueOf (i := x) (by omega)) (va_cwS 1 hts (lw_S q2236 q191 q90 q192) rfl rfl rfl (by decide +kernel) ⟨Nat.le_of_ble_eq_true rfl, Nat.le_of_ble_eq_true rfl⟩) (g_preS hG) rfl rfl hl.1 rfl (lv_room (Nat.le_of_ble_eq_true rfl)) dX2_thread_18 ⟨Nat.le_of_ble_eq_true rfl, Nat.le_of_ble_eq_true rfl⟩) hG (fun r_7 F_8 V_9 ws_ H locs hp hG => ?_)
  obtain ⟨rfl, rfl, rfl, rfl⟩ := hp
  have hG : gW X F V ((es, aR (gT X 10) 17 (fun _ => none)) :: (dq, oB 30 [.ref es, .int (zI 0), .int (zI 0)]) :: (wi, aL (gT X 1) 1 (fun _ => 0)) :: (bi, oB 32 [.ref wi, .int (zI 0), .int (zI 0)]) :: Z) s H locs := hG
  have hG : gW X F V ((dq, oB 30 [.ref es, .int (zI 0), .int (zI 0)]) :: (es, aR (gT X 10) 17 (fun _ => none)) :: (wi, aL (gT X 1) 1 (fun _ => 0)) :: (bi, oB 32 [.ref wi, .int (zI 0), .int (zI 0)]) :: Z) s _ _ := hG.pull 1 rfl rfl
  refine g_cv (va_runV (As := [.ref (ga X (x + 128))]) (rest := []) ⟨hx, hb, hml, hown, hts⟩ (metJ36_addLast (i := x) (t := 0) (h := 0) (by omega) dqR.nil (by decide)) (cwV 1 hts (lw_V q2237 q2238 q2239 q139 q2240) rfl rfl rfl (by decide +kernel) ⟨Nat.le_of_ble_eq_true rfl, Nat.le_of_ble_eq_true rfl⟩) (g_preV hG (g_recv hG (hG.at 0 rfl) (ci := 30) rfl)) rfl rfl hl.1 rfl (lv_room (Nat.le_of_ble_eq_true rfl)) dX2_thread_21 ⟨Nat.le_of_ble_eq_true rfl, Nat.le_of_ble_eq_true rfl⟩) hG (fun F_11 V_12 ws_ H locs hp hG => ?_)
  obtain ⟨rfl, rfl, rfl⟩ := hp
  have hG : gW X F V ((dq, oB 30 [.ref es, .int (zI 0), .int (zI 1)]) :: (es, aR (gT X 10) 17 (va_up (fun _ => none) 0 (some (ga X (x + 128))))) :: (wi, aL (gT X 1) 1 (fun _ => 0)) :: (bi, oB 32 [.ref wi, .int (zI 0), .int (zI 0)]) :: Z) s H locs := hG
  have hG : gW X F V ((es, aR (gT X 10) 17 (va_up (fun _ => none) 0 (some (ga X (x + 128))))) :: (dq, oB 30 [.ref es, .int (zI 0), .int (zI 1)]) :: (wi, aL (gT X 1) 1 (fun _ => 0)) :: (bi, oB 32 [.ref wi, .int (zI 0), .int (zI 0)]) :: Z) s _ _ := hG.pull 1 rfl rfl
  have hG : gW X F V ((dq, oB 30 [.ref es, .int (zI 0), .int (zI 1)]) :: (es, aR (gT X 10) 17 (va_up (fun _ => none) 0 (some (ga X (x + 128))))) :: (wi, aL (gT X 1) 1 (fun _ => 0)) :: (bi, oB 32 [.ref wi, .int (zI 0), .int (zI 0)]) :: Z) s _ _ := hG.pull 1 rfl rfl
  have hG : gW X F V ((wi, aL (gT X 1) 1 (fun _ => 0)) :: (dq, oB 30 [.ref es, .int (zI 0), .int (zI 1)]) :: (es, aR (gT X 10) 17 (va_up (fun _ => none) 0 (some (ga X (x + 128))))) :: (bi, oB 32 [.ref wi, .int (zI 0), .int (zI 0)]) :: Z) s _ _ := hG.pull 2 rfl rfl
  have hG : gW X F V ((bi, oB 32 [.ref wi, .int (zI 0), .int (zI 0)]) :: (wi, aL (gT X 1) 1 (fun _ => 0)) :: (dq, oB 30 [.ref es, .int (zI 0), .int (zI 1)]) :: (es, aR (gT X 10) 17 (va_up (fun _ => none) 0 (some (ga X (x + 128))))) :: Z) s _ _ := hG.pull 3 rfl rfl
  refine g_loop (fun mz H locs ls => ∃ (D L : List Nat) (h t : Nat) (f : Nat → Option Nat) (xb : Nat) (iu : Int) (fb : Nat → Int64), (thI w x D L ∧ mz = 16 - D.length ∧ dqR f h t (L.map (fun x => ga X (x + 128))) ∧ thS xb D ∧ bsR xb iu fb) ∧ gW X F V ((bi, oB 32 [.ref wi, .int (zI iu), .int (zI 0)]) :: (wi, aL (gT X 1) 1 fb) :: (dq, oB 30 [.ref es, .int (zI (h : Int)), .int (zI (t : Int))]) :: (es, aR (gT X 10) 17 f) :: Z) s H locs ∧ lv_has ls 6 [(0, .ref wa), (1, .int (zI (x : Int))), (2, .ref bi), (3, .ref dq)]) (16 - 0) ⟨([]), ([x]), 0, 1, _, 0, 0, (fun _ => 0), ⟨thI_start hxm, rfl, dqR.nil.back (by decide), fun j _ => by rw [Nat.zero_testBit]; rfl, ⟨by decide +kernel, by decide, Or.inl ⟨rfl, rfl⟩⟩⟩, hG, (lv_sub hl [2, 3, 1, 0] rfl)⟩ (fun mz ihA H locs ls hI => ?_)
  obtain ⟨D, L, h, t, f, xb, iu, fb, ⟨hI, hmz, hdq, hS, hbs⟩, hG, hl⟩ := hI
  refine lv_aload_n hx hb dX2_thread_24 rfl (lv_at hl 3 rfl) ?_
  have hG : gW X F V ((es, aR (gT X 10) 17 f) :: (bi, oB 32 [.ref wi, .int (zI iu), .int (zI 0)]) :: (wi, aL (gT X 1) 1 fb) :: (dq, oB 30 [.ref es, .int (zI (h : Int)), .int (zI (t : Int))]) :: Z) s _ _ := hG.pull 3 rfl rfl
  have hG : gW X F V ((dq, oB 30 [.ref es, .int (zI (h : Int)), .int (zI (t : Int))]) :: (es, aR (gT X 10) 17 f) :: (bi, oB 32 [.ref wi, .int (zI iu), .int (zI 0)]) :: (wi, aL (gT X 1) 1 fb) :: Z) s _ _ := hG.pull 3 rfl rfl
  refine g_ci (va_runV (As := []) (rest := []) ⟨hx, hb, hml, hown, hts⟩ (metJ36_isEmpty hdq) (cwV 0 hts (lw_V q2242 q2243 q2244 q139 q2245) rfl rfl rfl (by decide +kernel) ⟨Nat.le_of_ble_eq_true rfl, Nat.le_of_ble_eq_true rfl⟩) (g_preV hG (g_recv hG (hG.at 0 rfl) (ci := 30) rfl)) rfl rfl hl.1 rfl (lv_room (Nat.le_of_ble_eq_true rfl)) dX2_thread_25 ⟨Nat.le_of_ble_eq_true rfl, Nat.le_of_ble_eq_true rfl⟩) hG (fun r_13 F_14 V_15 ws_ H locs hp hG => ?_)
  obtain ⟨rfl, rfl, rfl, rfl⟩ := hp
  have hG : gW X F V ((dq, oB 30 [.ref es, .int (zI (h : Int)), .int (zI (t : Int))]) :: (es, aR (gT X 10) 17 f) :: (bi, oB 32 [.ref wi, .int (zI iu), .int (zI 0)]) :: (wi, aL (gT X 1) 1 fb) :: Z) s H locs := hG
  rcases L with _ | ⟨one, L⟩
  · refine g_topz (y := 1) rfl ?_
    refine g_ne (tgt := 97) hx hb dX2_thread_28 (by decide) (by decide) (fun h1 => ?_) (fun h1 => ?_)
    · refine lv_aload_n hx hb dX2_thread_97 rfl (lv_at hl 2 rfl) ?_
      have hG : gW X F V ((es, aR (gT X 10) 17 f) :: (bi, oB 32 [.ref wi, .int (zI iu), .int (zI 0)]) :: (wi, aL (gT X 1) 1 fb) :: Z) s _ _ := hG.drop 0 rfl rfl
      have hG : gW X F V ((bi, oB 32 [.ref wi, .int (zI iu), .int (zI 0)]) :: (wi, aL (gT X 1) 1 fb) :: Z) s _ _ := hG.drop 0 rfl rfl
      exact g_rret hx hb hr (Or.inl ⟨_, rfl⟩) hlocks hG (⟨rfl, rfl, wi, iu, fb, xb, hbs, hS.done hK hI, rfl⟩) ⟨Nat.le_of_ble_eq_true rfl, Nat.le_of_ble_eq_true rfl⟩ dX2_thread_98
    · exfalso; omega
  · refine g_topz (y := 0) rfl ?_
    have hdq1 : dqR f h t (ga X (one + 128) :: L.map (fun x => ga X (x + 128))) := hdq
    have hone : one < wM w := (hI.2.1 one (List.mem_append_right _ List.mem_cons_self)).1
    have hln := thI_len hK hI
    have hln : D.length + (L.length + 1) ≤ 16 := hln
    have hJ := thI_pop hK hI
    have hh17 := hdq.1
    have hdq2 := hdq1.pop.2
    refine g_ne (tgt := 97) hx hb dX2_thread_28 (by decide) (by decide) (fun h1 => ?_) (fun h1 => ?_)
    · exfalso; omega
    · refine lv_aload_n hx hb dX2_thread_31 rfl (lv_at hl 3 rfl) ?_
      refine g_cr (va_runV (As := []) (rest := []) ⟨hx, hb, hml, hown, hts⟩ (metJ36_removeFirst hdq1) (cwV 0 hts (lw_V q2246 q2247 q2248 q139 q2249) rfl rfl rfl (by decide +kernel) ⟨Nat.le_of_ble_eq_true rfl, Nat.le_of_ble_eq_true rfl⟩) (g_preV hG (g_recv hG (hG.at 0 rfl) (ci := 30) rfl)) rfl rfl hl.1 rfl (lv_room (Nat.le_of_ble_eq_true rfl)) dX2_thread_32 ⟨Nat.le_of_ble_eq_true rfl, Nat.le_of_ble_eq_true rfl⟩) hG (fun r_16 F_17 V_18 ws_ H locs hp hG => ?_)
      obtain ⟨rfl, rfl, rfl, rfl⟩ := hp
      have hG : gW X F V ((dq, oB 30 [.ref es, .int (zI (((h + 1) % 17 : Nat) : Int)), .int (zI (t : Int))]) :: (es, aR (gT X 10) 17 (va_up f h none)) :: (bi, oB 32 [.ref wi, .int (zI iu), .int (zI 0)]) :: (wi, aL (gT X 1) 1 fb) :: Z) s H locs := hG
      refine va_castE hx hb hown (hts _ q2257) (g_int_recv hG (k := (one + 128)) (by omega)) dX2_thread_35 ?_
      refine g_ci (va_runV (As := []) (rest := []) ⟨hx, hb, hml, hown, hts⟩ (metJ1_intValue (i := one) (by omega)) (cwV 0 hts (lw_V q2258 q2259 q2260 q90 q2261) rfl rfl rfl (by decide +kernel) ⟨Nat.le_of_ble_eq_true rfl, Nat.le_of_ble_eq_true rfl⟩) (g_preV hG (g_int_recv hG (k := (one + 128)) (by omega))) rfl rfl hl.1 rfl (lv_room (Nat.le_of_ble_eq_true rfl)) dX2_thread_38 ⟨Nat.le_of_ble_eq_true rfl, Nat.le_of_ble_eq_true rfl⟩) hG (fun r_19 F_20 V_21 ws_ H locs hp hG => ?_)
      obtain ⟨rfl, rfl, rfl, rfl⟩ := hp
      have hG : gW X F V ((dq, oB 30 [.ref es, .int (zI (((h + 1) % 17 : Nat) : Int)), .int (zI (t : Int))]) :: (es, aR (gT X 10) 17 (va_up f h none)) :: (bi, oB 32 [.ref wi, .int (zI iu), .int (zI 0)]) :: (wi, aL (gT X 1) 1 fb) :: Z) s H locs := hG
      refine lv_istore (lv' := [(4, .int (zI (one : Int))), (0, .ref wa), (1, .int (zI (x : Int))), (2, .ref bi), (3, .ref dq)]) hx hb dX2_thread_41 hl (by decide) rfl (fun ls hl => ?_)
      refine lv_aload_n hx hb dX2_thread_43 rfl (lv_at hl 3 rfl) ?_
      refine lv_iload hx hb dX2_thread_44 (lv_at hl 0 rfl) ?_
      have hG : gW X F V ((wi, aL (gT X 1) 1 fb) :: (dq, oB 30 [.ref es, .int (zI (((h + 1) % 17 : Nat) : Int)), .int (zI (t : Int))]) :: (es, aR (gT X 10) 17 (va_up f h none)) :: (bi, oB 32 [.ref wi, .int (zI iu), .int (zI 0)]) :: Z) s _ _ := hG.pull 3 rfl rfl
      have hG : gW X F V ((bi, oB 32 [.ref wi, .int (zI iu), .int (zI 0)]) :: (wi, aL (gT X 1) 1 fb) :: (dq, oB 30 [.ref es, .int (zI (((h + 1) % 17 : Nat) : Int)), .int (zI (t : Int))]) :: (es, aR (gT X 10) 17 (va_up f h none)) :: Z) s _ _ := hG.pull 3 rfl rfl
      refine g_cv (va_runV (As := [.int (zI (one : Int))]) (rest := []) ⟨hx, hb, hml, hown, hts⟩ (metJ37_set (x := xb) (i := one) hbs (by omega)) (cwV 1 hts (lw_V q2262 q1836 q1837 q142 q1838) rfl rfl rfl (by decide +kernel) ⟨Nat.le_of_ble_eq_true rfl, Nat.le_of_ble_eq_true rfl⟩) (g_preV hG (g_recv hG (hG.at 0 rfl) (ci := 32) rfl)) rfl rfl hl.1 rfl (lv_room (Nat.le_of_ble_eq_true rfl)) dX2_thread_46 ⟨Nat.le_of_ble_eq_true rfl, Nat.le_of_ble_eq_true rfl⟩) hG (fun F_23 V_24 ws_ H locs hp hG => ?_)
      obtain ⟨rfl, rfl, rfl⟩ := hp
      have hG : gW X F V ((bi, oB 32 [.ref wi, .int (zI 1), .int (zI 0)]) :: (wi, aL (gT X 1) 1 (vp_updL fb 0 (lN (xb ||| 2 ^ one)))) :: (dq, oB 30 [.ref es, .int (zI (((h + 1) % 17 : Nat) : Int)), .int (zI (t : Int))]) :: (es, aR (gT X 10) 17 (va_up f h none)) :: Z) s H locs := hG
      have hbs2 := hbs.set (i := one) (by omega)
      have hS2 := hS.set (one := one)
      refine lv_iload hx hb dX2_thread_49 (lv_at hl 0 rfl) ?_
      refine lv_iconst (v := zI 1) hx hb dX2_thread_51 (by decide +kernel) ?_
      refine g_iadd hx hb dX2_thread_52 ?_
      refine lv_istore (lv' := [(5, .int (zI ((one : Int) + 1))), (4, .int (zI (one : Int))), (0, .ref wa), (1, .int (zI (x : Int))), (2, .ref bi), (3, .ref dq)]) hx hb dX2_thread_53 hl (by decide) rfl (fun ls hl => ?_)
      have hl : lv_has ls 6 [(5, .int (zI ((one + 1 : Nat) : Int))), (4, .int (zI (one : Int))), (0, .ref wa), (1, .int (zI (x : Int))), (2, .ref bi), (3, .ref dq)] := by exact hl
      refine g_loop (fun mz H locs ls => ∃ (k : Nat) (L2 : List Nat) (t2 : Nat) (f2 : Nat → Option Nat), (k ≤ wM w ∧ mz = wM w - k ∧ thJ w x (D ++ [one]) L2 one k ∧ dqR f2 ((h + 1) % 17) t2 (L2.map (fun x => ga X (x + 128)))) ∧ gW X F V ((bi, oB 32 [.ref wi, .int (zI 1), .int (zI 0)]) :: (wi, aL (gT X 1) 1 (vp_updL fb 0 (lN (xb ||| 2 ^ one)))) :: (dq, oB 30 [.ref es, .int (zI (((h + 1) % 17 : Nat) : Int)), .int (zI (t2 : Int))]) :: (es, aR (gT X 10) 17 f2) :: Z) s H locs ∧ lv_has ls 6 [(0, .ref wa), (1, .int (zI (x : Int))), (2, .ref bi), (3, .ref dq), (4, .int (zI (one : Int))), (5, .int (zI (k : Int)))]) (wM w - (one + 1)) ⟨(one + 1), L, t, (va_up f h none), ⟨by omega, rfl, hJ, hdq2⟩, hG, (lv_sub hl [2, 3, 4, 5, 1, 0] rfl)⟩ (fun mz ihB H locs ls hI => ?_)
      obtain ⟨k, L2, t2, f2, ⟨hk, hmz2, hJ2, hdq3⟩, hG, hl⟩ := hI
      have hjl := thJ_len hK hJ2
      rw [List.length_append] at hjl
      have hjl : D.length + 1 + L2.length ≤ 16 := hjl
      refine lv_iload hx hb dX2_thread_55 (lv_at hl 5 rfl) ?_
      refine lv_aload_n hx hb dX2_thread_57 rfl (lv_at hl 0 rfl) ?_
      refine g_get (ci := 2) hx hb hts in_X2 hown hG (hG.vo hw0) rfl 1 (Nat.le_of_ble_eq_true rfl) (hts _ q335) (fun _ h9 => h9) rfl dX2_thread_58 ?_
      refine g_cge (tgt := 94) hx hb dX2_thread_61 (by decide) (by omega) (fun h2 => ?_) (fun h2 => ?_)
      · refine lv_goto (tgt := 24) hx hb dX2_thread_94 (by decide) ?_
        exact ihA (16 - (D ++ [one]).length) (by rw [List.length_append]; have h1 : [one].length = 1 := rfl; omega) H locs ls ⟨(D ++ [one]), L2, ((h + 1) % 17), t2, f2, (xb ||| 2 ^ one), 1, (vp_updL fb 0 (lN (xb ||| 2 ^ one))), ⟨thJ_end hJ2 (by omega), rfl, hdq3, hS2, hbs2⟩, hG, (lv_sub hl [0, 1, 2, 3] rfl)⟩
      · refine lv_aload_n hx hb dX2_thread_64 rfl (lv_at hl 0 rfl) ?_
        refine g_get (ci := 2) hx hb hts in_X2 hown hG (hG.vo hw0) rfl 7 (Nat.le_of_ble_eq_true rfl) (hts _ q350) (fun _ h9 => h9) rfl dX2_thread_65 ?_
        refine lv_iload hx hb dX2_thread_68 (lv_at hl 5 rfl) ?_
        refine g_aald hx hb hG 8 rfl rfl (hG.vo hw2) k ⟨rfl, by omega, by omega⟩ (v := .ref (ma k)) (congrArg va_rf (hwM k (by omega))) dX2_thread_70 ?_
        have hrk25 := hK.rk (m := k) (by omega)
        have hao := oI_lt (o := rAns (wRk w k)) (n := k) (fun x hx => hK.ra (by omega) hx)
        refine g_rmget hx hb hrk25.1 hts hown hG (hG.fz (hMk k (by omega))) 5 (by decide) (hts _ q2099) rfl dX2_thread_71 ?_
        refine lv_iload hx hb dX2_thread_74 (lv_at hl 4 rfl) ?_
        refine g_cne (tgt := 88) hx hb dX2_thread_76 (by decide) (by omega) (fun h3 => ?_) (fun h3 => ?_)
        · refine lv_iinc (v := zI ((k : Int) + 1 : Int)) (lv' := [(5, .int (zI ((k : Int) + 1 : Int))), (0, .ref wa), (1, .int (zI (x : Int))), (2, .ref bi), (3, .ref dq), (4, .int (zI (one : Int)))]) hx hb dX2_thread_88 hl (k := 5) rfl ((zI_add _ _).trans (congrArg zI (by omega))) (by decide) rfl (fun ls hl => ?_)
          refine lv_goto (tgt := 55) hx hb dX2_thread_91 (by decide) ?_
          have hl : lv_has ls 6 [(5, .int (zI ((k + 1 : Nat) : Int))), (0, .ref wa), (1, .int (zI (x : Int))), (2, .ref bi), (3, .ref dq), (4, .int (zI (one : Int)))] := by exact hl
          exact ihB (wM w - (k + 1)) (by omega) H locs ls ⟨(k + 1), L2, t2, f2, ⟨by omega, rfl, thJ_no hJ2 (fun q => h3 (by rw [q]; rfl)), hdq3⟩, hG, (lv_sub hl [1, 2, 3, 4, 5, 0] rfl)⟩
        · have hans : rAns (wRk w k) = some one := oI_n.mp h3
          refine lv_aload_n hx hb dX2_thread_79 rfl (lv_at hl 3 rfl) ?_
          refine lv_iload hx hb dX2_thread_80 (lv_at hl 5 rfl) ?_
          refine g_cr (va_runS (As := [.int (zI (k : Int))]) (rest := [.ref dq]) ⟨hx, hb, hml, hown, hts⟩ (metJ1_valueOf (i := k) (by omega)) (va_cwS 1 hts (lw_S q2236 q191 q90 q192) rfl rfl rfl (by decide +kernel) ⟨Nat.le_of_ble_eq_true rfl, Nat.le_of_ble_eq_true rfl⟩) (g_preS hG) rfl rfl hl.1 rfl (lv_room (Nat.le_of_ble_eq_true rfl)) dX2_thread_82 ⟨Nat.le_of_ble_eq_true rfl, Nat.le_of_ble_eq_true rfl⟩) hG (fun r_26 F_27 V_28 ws_ H locs hp hG => ?_)
          obtain ⟨rfl, rfl, rfl, rfl⟩ := hp
          have hG : gW X F V ((bi, oB 32 [.ref wi, .int (zI 1), .int (zI 0)]) :: (wi, aL (gT X 1) 1 (vp_updL fb 0 (lN (xb ||| 2 ^ one)))) :: (dq, oB 30 [.ref es, .int (zI (((h + 1) % 17 : Nat) : Int)), .int (zI (t2 : Int))]) :: (es, aR (gT X 10) 17 f2) :: Z) s H locs := hG
          have hG : gW X F V ((es, aR (gT X 10) 17 f2) :: (bi, oB 32 [.ref wi, .int (zI 1), .int (zI 0)]) :: (wi, aL (gT X 1) 1 (vp_updL fb 0 (lN (xb ||| 2 ^ one)))) :: (dq, oB 30 [.ref es, .int (zI (((h + 1) % 17 : Nat) : Int)), .int (zI (t2 : Int))]) :: Z) s _ _ := hG.pull 3 rfl rfl
          have hG : gW X F V ((dq, oB 30 [.ref es, .int (zI (((h + 1) % 17 : Nat) : Int)), .int (zI (t2 : Int))]) :: (es, aR (gT X 10) 17 f2) :: (bi, oB 32 [.ref wi, .int (zI 1), .int (zI 0)]) :: (wi, aL (gT X 1) 1 (vp_updL fb 0 (lN (xb ||| 2 ^ one)))) :: Z) s _ _ := hG.pull 3 rfl rfl
          refine g_cv (va_runV (As := [.ref (ga X (k + 128))]) (rest := []) ⟨hx, hb, hml, hown, hts⟩ (metJ36_addLast (i := k) (by omega) hdq3 (by rw [List.length_map]; omega)) (cwV 1 hts (lw_V q2237 q2238 q2239 q139 q2240) rfl rfl rfl (by decide +kernel) ⟨Nat.le_of_ble_eq_true rfl, Nat.le_of_ble_eq_true rfl⟩) (g_preV hG (g_recv hG (hG.at 0 rfl) (ci := 30) rfl)) rfl rfl hl.1 rfl (lv_room (Nat.le_of_ble_eq_true rfl)) dX2_thread_85 ⟨Nat.le_of_ble_eq_true rfl, Nat.le_of_ble_eq_true rfl⟩) hG (fun F_30 V_31 ws_ H locs hp hG => ?_)
          obtain ⟨rfl, rfl, rfl⟩ := hp
          have hG : gW X F V ((dq, oB 30 [.ref es, .int (zI (((h + 1) % 17 : Nat) : Int)), .int (zI (((t2 + 1) % 17 : Nat) : Int))]) :: (es, aR (gT X 10) 17 (va_up f2 t2 (some (ga X (k + 128))))) :: (bi, oB 32 [.ref wi, .int (zI 1), .int (zI 0)]) :: (wi, aL (gT X 1) 1 (vp_updL fb 0 (lN (xb ||| 2 ^ one)))) :: Z) s H locs := hG
          refine lv_iinc (v := zI ((k : Int) + 1 : Int)) (lv' := [(5, .int (zI ((k : Int) + 1 : Int))), (0, .ref wa), (1, .int (zI (x : Int))), (2, .ref bi), (3, .ref dq), (4, .int (zI (one : Int)))]) hx hb dX2_thread_88 hl (k := 5) rfl ((zI_add _ _).trans (congrArg zI (by omega))) (by decide) rfl (fun ls hl => ?_)
          refine lv_goto (tgt := 55) hx hb dX2_thread_91 (by decide) ?_
          have hG : gW X F V ((es, aR (gT X 10) 17 (va_up f2 t2 (some (ga X (k + 128))))) :: (dq, oB 30 [.ref es, .int (zI (((h + 1) % 17 : Nat) : Int)), .int (zI (((t2 + 1) % 17 : Nat) : Int))]) :: (bi, oB 32 [.ref wi, .int (zI 1), .int (zI 0)]) :: (wi, aL (gT X 1) 1 (vp_updL fb 0 (lN (xb ||| 2 ^ one)))) :: Z) s _ _ := hG.pull 1 rfl rfl
          have hG : gW X F V ((dq, oB 30 [.ref es, .int (zI (((h + 1) % 17 : Nat) : Int)), .int (zI (((t2 + 1) % 17 : Nat) : Int))]) :: (es, aR (gT X 10) 17 (va_up f2 t2 (some (ga X (k + 128))))) :: (bi, oB 32 [.ref wi, .int (zI 1), .int (zI 0)]) :: (wi, aL (gT X 1) 1 (vp_updL fb 0 (lN (xb ||| 2 ^ one)))) :: Z) s _ _ := hG.pull 1 rfl rfl
          have hG : gW X F V ((wi, aL (gT X 1) 1 (vp_updL fb 0 (lN (xb ||| 2 ^ one)))) :: (dq, oB 30 [.ref es, .int (zI (((h + 1) % 17 : Nat) : Int)), .int (zI (((t2 + 1) % 17 : Nat) : Int))]) :: (es, aR (gT X 10) 17 (va_up f2 t2 (some (ga X (k + 128))))) :: (bi, oB 32 [.ref wi, .int (zI 1), .int (zI 0)]) :: Z) s _ _ := hG.pull 3 rfl rfl
          have hG : gW X F V ((bi, oB 32 [.ref wi, .int (zI 1), .int (zI 0)]) :: (wi, aL (gT X 1) 1 (vp_updL fb 0 (lN (xb ||| 2 ^ one)))) :: (dq, oB 30 [.ref es, .int (zI (((h + 1) % 17 : Nat) : Int)), .int (zI (((t2 + 1) % 17 : Nat) : Int))]) :: (es, aR (gT X 10) 17 (va_up f2 t2 (some (ga X (k + 128))))) :: Z) s _ _ := hG.pull 3 rfl rfl
          have hl : lv_has ls 6 [(5, .int (zI ((k + 1 : Nat) : Int))), (0, .ref wa), (1, .int (zI (x : Int))), (2, .ref bi), (3, .ref dq), (4, .int (zI (one : Int)))] := by exact hl
          exact ihB (wM w - (k + 1)) (by omega) H locs ls ⟨(k + 1), (L2 ++ [k]), ((t2 + 1) % 17), _, ⟨by omega, rfl, thJ_yes hJ2 (by omega) hans, by rw [List.map_append]; exact hdq3.back (by rw [List.length_map]; omega)⟩, hG, (lv_sub hl [1, 2, 3, 4, 5, 0] rfl)⟩

set_option maxHeartbeats 4000000 in
theorem metX2_answering {l : Launch} {X : gX} {F : gF} {V : gV} {Z : va_W} {x : Nat} {wa rv rk st : Nat} {ra la ma : Nat → Nat} {w : aW} (hW : xWd X F V 4 w wa rv rk st ra la ma) (hK : wOK w) (hxm : x < wM w) : Met l yX2_answering (ws_ yX2_answering cX2_answering 2 (some FieldType.int)) ({ frames := 4, cells := 4, slots := 30, locals := 91 }) (gP X F V (Z) [.ref wa, .int (zI (x : Int))]) (gQi X (fun u G U ws => u = zI (cnB (aIn w x) (wM w) : Int) ∧ F = G ∧ V = U ∧ Z = ws)) 4 30 (gA X) := by
  refine Met.g (by decide) (Nat.le_of_ble_eq_true rfl) ?_
  intro p e s m below meth c ls hx hb hr hts hown hlocks hml hin hG hl
  have hl : lv_has ls 2 [(0, .ref wa), (1, .int (zI (x : Int)))] := hl
  have hw0 := hW.1
  have hMM := hK.m
  refine lv_aload_n hx hb dX2_answering_0 rfl (lv_at hl 0 rfl) ?_
  refine lv_iload_n hx hb dX2_answering_1 rfl (lv_at hl 1 rfl) ?_
  refine g_cr (va_runV (As := [.int (zI (x : Int))]) (rest := []) ⟨hx, hb, hml, hown, hts⟩ (metX2_thread hW hK hxm) (cwV 1 hts (lw_V q2228 q2230 qs32 q100 q2231) rfl rfl rfl (by decide +kernel) ⟨Nat.le_of_ble_eq_true rfl, Nat.le_of_ble_eq_true rfl⟩) (g_preV hG (g_recv hG (hG.vo hw0) (ci := 2) rfl)) rfl rfl hl.1 rfl (lv_room (Nat.le_of_ble_eq_true rfl)) dX2_answering_2 ⟨Nat.le_of_ble_eq_true rfl, Nat.le_of_ble_eq_true rfl⟩) hG (fun bi F_1 V_2 ws_ H locs hp hG => ?_)
  obtain ⟨rfl, rfl, wi, iu, fb, xb, hbs, hth, rfl⟩ := hp
  have hG : gW X F V ((bi, oB 32 [.ref wi, .int (zI iu), .int (zI 0)]) :: (wi, aL (gT X 1) 1 fb) :: Z) s H locs := hG
  refine g_ci (va_runV (As := []) (rest := []) ⟨hx, hb, hml, hown, hts⟩ (metJ37_cardinality hbs) (cwV 0 hts (lw_V q2263 q1871 q1872 q142 q1873) rfl rfl rfl (by decide +kernel) ⟨Nat.le_of_ble_eq_true rfl, Nat.le_of_ble_eq_true rfl⟩) (g_preV hG (g_recv hG (hG.at 0 rfl) (ci := 32) rfl)) rfl rfl hl.1 rfl (lv_room (Nat.le_of_ble_eq_true rfl)) dX2_answering_5 ⟨Nat.le_of_ble_eq_true rfl, Nat.le_of_ble_eq_true rfl⟩) hG (fun r_3 F_4 V_5 ws_ H locs hp hG => ?_)
  obtain ⟨rfl, rfl, rfl, rfl⟩ := hp
  have hG : gW X F V ((bi, oB 32 [.ref wi, .int (zI iu), .int (zI 0)]) :: (wi, aL (gT X 1) 1 fb) :: Z) s H locs := hG
  have hbc := thB_bc hth hK hxm
  refine lv_iconst (v := zI 1) hx hb dX2_answering_8 (by decide +kernel) ?_
  refine g_isub hx hb dX2_answering_9 ?_
  have hG : gW X F V ((wi, aL (gT X 1) 1 fb) :: Z) s _ _ := hG.drop 0 rfl rfl
  have hG : gW X F V (Z) s _ _ := hG.drop 0 rfl rfl
  exact g_iret hx hb hr hlocks hG (⟨congrArg zI (by omega), rfl, rfl, rfl⟩) ⟨Nat.le_of_ble_eq_true rfl, Nat.le_of_ble_eq_true rfl⟩ dX2_answering_10

set_option maxHeartbeats 4000000 in
theorem metX2_isOpen {l : Launch} {X : gX} {F : gF} {V : gV} {Z : va_W} {x : Nat} {wa rv rk st : Nat} {ra la ma : Nat → Nat} {w : aW} (hW : xWd X F V 4 w wa rv rk st ra la ma) (hK : wOK w) (hxm : x < wM w) : Met l yX2_isOpen (ws_ yX2_isOpen cX2_isOpen 4 (some FieldType.boolean)) ({ frames := 4, cells := 4, slots := 30, locals := 91 }) (gP X F V (Z) [.ref wa, .int (zI (x : Int))]) (gQi X (fun u G U ws => u = zI (bI (aOpen w x)) ∧ F = G ∧ V = U ∧ Z = ws)) 4 30 (gA X) := by
  refine Met.g (by decide) (Nat.le_of_ble_eq_true rfl) ?_
  intro p e s m below meth c ls hx hb hr hts hown hlocks hml hin hG hl
  have hl : lv_has ls 4 [(0, .ref wa), (1, .int (zI (x : Int)))] := hl
  have hMM := hK.m
  have hWA := hW
  obtain ⟨hw0, ⟨fR, hw1, hwR⟩, ⟨fM, hw2, hwM⟩, ⟨fS, hw3, hwS⟩, hR, hMk⟩ := hW
  have hw1 : V 5 = some (rv, aR (gT X 7) 16 fR) := hw1
  have hw2 : V 6 = some (rk, aR (gT X 8) 16 fM) := hw2
  have hw3 : V 7 = some (st, aI (gT X 5) 16 fS) := hw3
  have hwE : V 4 = some (wa, xwE w rv rk st) := hw0
  refine lv_aload_n hx hb dX2_isOpen_0 rfl (lv_at hl 0 rfl) ?_
  refine lv_iload_n hx hb dX2_isOpen_1 rfl (lv_at hl 1 rfl) ?_
  refine g_cr (va_runV (As := [.int (zI (x : Int))]) (rest := []) ⟨hx, hb, hml, hown, hts⟩ (metX2_thread hWA hK hxm) (cwV 1 hts (lw_V q2228 q2230 qs32 q100 q2231) rfl rfl rfl (by decide +kernel) ⟨Nat.le_of_ble_eq_true rfl, Nat.le_of_ble_eq_true rfl⟩) (g_preV hG (g_recv hG (hG.vo hw0) (ci := 2) rfl)) rfl rfl hl.1 rfl (lv_room (Nat.le_of_ble_eq_true rfl)) dX2_isOpen_2 ⟨Nat.le_of_ble_eq_true rfl, Nat.le_of_ble_eq_true rfl⟩) hG (fun bi F_1 V_2 ws_ H locs hp hG => ?_)
  obtain ⟨rfl, rfl, wi, iu, fb, xb, hbs, hth, rfl⟩ := hp
  have hG : gW X F V ((bi, oB 32 [.ref wi, .int (zI iu), .int (zI 0)]) :: (wi, aL (gT X 1) 1 fb) :: Z) s H locs := hG
  refine lv_astore_n (lv' := [(2, .ref bi), (0, .ref wa), (1, .int (zI (x : Int)))]) hx hb dX2_isOpen_5 rfl hl (by decide) rfl (fun ls hl => ?_)
  refine lv_aload_n hx hb dX2_isOpen_6 rfl (lv_at hl 0 rfl) ?_
  refine lv_iconst (v := zI 0) hx hb dX2_isOpen_7 (by decide +kernel) ?_
  refine g_ci (va_runV (As := [.int (zI 0)]) (rest := []) ⟨hx, hb, hml, hown, hts⟩ (metJ37_nextSetBit (i := 0) hbs (by decide)) (cwV 1 hts (lw_V q2268 q2269 q2270 q142 q2271) rfl rfl rfl (by decide +kernel) ⟨Nat.le_of_ble_eq_true rfl, Nat.le_of_ble_eq_true rfl⟩) (g_preV hG (g_recv hG (hG.at 0 rfl) (ci := 32) rfl)) rfl rfl hl.1 rfl (lv_room (Nat.le_of_ble_eq_true rfl)) dX2_isOpen_8 ⟨Nat.le_of_ble_eq_true rfl, Nat.le_of_ble_eq_true rfl⟩) hG (fun r_3 F_4 V_5 ws_ H locs hp hG => ?_)
  obtain ⟨rfl, rfl, rfl, rfl⟩ := hp
  have hG : gW X F V ((bi, oB 32 [.ref wi, .int (zI iu), .int (zI 0)]) :: (wi, aL (gT X 1) 1 fb) :: Z) s H locs := hG
  refine lv_istore_n (lv' := [(3, .int (zI (oI (nxS xb 32 0)))), (2, .ref bi), (0, .ref wa), (1, .int (zI (x : Int)))]) hx hb dX2_isOpen_11 rfl hl (by decide) rfl (fun ls hl => ?_)
  have hopn : ∀ k, k < wM w → aOp w x k = (xb.testBit k && !wSt w k) := fun k hk => by unfold aOp; rw [hth k (by omega)]; unfold thP; rw [decide_eq_true hk, Bool.true_and]
  refine g_loop (fun mz H locs ls => ∃ (i : Nat), (i ≤ 17 ∧ mz = 32 - i ∧ ∀ k, k < i → k < wM w → aOp w x k = false) ∧ gW X F V ((bi, oB 32 [.ref wi, .int (zI iu), .int (zI 0)]) :: (wi, aL (gT X 1) 1 fb) :: Z) s H locs ∧ lv_has ls 4 [(0, .ref wa), (1, .int (zI (x : Int))), (2, .ref bi), (3, .int (zI (oI (nxS xb 32 i))))]) (32 - 0) ⟨0, ⟨by decide, rfl, fun k hk => absurd hk (Nat.not_lt_zero _)⟩, hG, (lv_sub hl [2, 3, 1, 0] rfl)⟩ (fun mz ihA H locs ls hI => ?_)
  obtain ⟨i, ⟨hi, hmz, hno⟩, hG, hl⟩ := hI
  obtain ⟨hn1, hn2⟩ := nxS_R hbs.2.1 32 i (by omega) (by omega)
  rcases hq : nxS xb 32 i with _ | k
  · have hl : lv_has ls 4 [(0, .ref wa), (1, .int (zI (x : Int))), (2, .ref bi), (3, .int (zI (-1)))] := by rw [hq] at hl; exact hl
    refine lv_iload_n hx hb dX2_isOpen_12 rfl (lv_at hl 3 rfl) ?_
    refine g_lt (tgt := 38) hx hb dX2_isOpen_13 (by decide) (by decide) (fun h1 => ?_) (fun h1 => ?_)
    · refine lv_iconst (v := zI 0) hx hb dX2_isOpen_38 (by decide +kernel) ?_
      have hG : gW X F V ((wi, aL (gT X 1) 1 fb) :: Z) s _ _ := hG.drop 0 rfl rfl
      have hG : gW X F V (Z) s _ _ := hG.drop 0 rfl rfl
      exact g_zret hx hb hr hlocks rfl hG (⟨by rw [show aOpen w x = false from anB_no.mpr (fun k hk => by by_cases hki : k < i; (exact hno k hki hk); (rw [hopn k hk, hn2 hq k (by omega)]; rfl))]; rfl, rfl, rfl, rfl⟩) ⟨Nat.le_of_ble_eq_true rfl, Nat.le_of_ble_eq_true rfl⟩ dX2_isOpen_39
    · exfalso; omega
  · obtain ⟨q1, q2, q3, q4⟩ := hn1 k hq
    have hl : lv_has ls 4 [(0, .ref wa), (1, .int (zI (x : Int))), (2, .ref bi), (3, .int (zI (k : Int)))] := by rw [hq] at hl; exact hl
    have hkM : k < wM w := by have := hth k (by omega); rw [q3] at this; have h9 := (Bool.and_eq_true _ _ ▸ this.symm : decide (k < wM w) = true ∧ _).1; exact of_decide_eq_true h9
    refine lv_iload_n hx hb dX2_isOpen_12 rfl (lv_at hl 3 rfl) ?_
    refine g_lt (tgt := 38) hx hb dX2_isOpen_13 (by decide) (by omega) (fun h1 => ?_) (fun h1 => ?_)
    · exfalso; omega
    · refine lv_aload_n hx hb dX2_isOpen_16 rfl (lv_at hl 0 rfl) ?_
      refine g_get (ci := 2) hx hb hts in_X2 hown hG (hG.vo hw0) rfl 8 (Nat.le_of_ble_eq_true rfl) (hts _ q352) (fun _ h9 => h9) rfl dX2_isOpen_17 ?_
      refine lv_iload_n hx hb dX2_isOpen_20 rfl (lv_at hl 3 rfl) ?_
      refine g_zald hx hb hG (hG.vo hw3) k ⟨rfl, by omega, by omega⟩ (v := zI (bI (wSt w k))) (hwS k hkM) dX2_isOpen_21 ?_
      refine g_ne (tgt := 27) hx hb dX2_isOpen_22 (by decide) (by have := bI_R (wSt w k); omega) (fun h2 => ?_) (fun h2 => ?_)
      · have hst : wSt w k = true := by cases hc : wSt w k with | true => rfl | false => (rw [hc] at h2; exact absurd rfl h2)
        have hk31 : k + 1 < 32 := by omega
        refine lv_aload_n hx hb dX2_isOpen_27 rfl (lv_at hl 2 rfl) ?_
        refine lv_iload_n hx hb dX2_isOpen_28 rfl (lv_at hl 3 rfl) ?_
        refine lv_iconst (v := zI 1) hx hb dX2_isOpen_29 (by decide +kernel) ?_
        refine g_iadd hx hb dX2_isOpen_30 ?_
        refine g_topz (y := ((k + 1 : Nat) : Int)) (by omega) ?_
        refine g_ci (va_runV (As := [.int (zI ((k + 1 : Nat) : Int))]) (rest := []) ⟨hx, hb, hml, hown, hts⟩ (metJ37_nextSetBit (i := k + 1) hbs hk31) (cwV 1 hts (lw_V q2268 q2269 q2270 q142 q2271) rfl rfl rfl (by decide +kernel) ⟨Nat.le_of_ble_eq_true rfl, Nat.le_of_ble_eq_true rfl⟩) (g_preV hG (g_recv hG (hG.at 0 rfl) (ci := 32) rfl)) rfl rfl hl.1 rfl (lv_room (Nat.le_of_ble_eq_true rfl)) dX2_isOpen_31 ⟨Nat.le_of_ble_eq_true rfl, Nat.le_of_ble_eq_true rfl⟩) hG (fun r_6 F_7 V_8 ws_ H locs hp hG => ?_)
        obtain ⟨rfl, rfl, rfl, rfl⟩ := hp
        have hG : gW X F V ((bi, oB 32 [.ref wi, .int (zI iu), .int (zI 0)]) :: (wi, aL (gT X 1) 1 fb) :: Z) s H locs := hG
        refine lv_istore_n (lv' := [(3, .int (zI (oI (nxS xb 32 (k + 1))))), (0, .ref wa), (1, .int (zI (x : Int))), (2, .ref bi)]) hx hb dX2_isOpen_34 rfl hl (by decide) rfl (fun ls hl => ?_)
        refine lv_goto (tgt := 12) hx hb dX2_isOpen_35 (by decide) ?_
        exact ihA (32 - (k + 1)) (by omega) H locs ls ⟨(k + 1), ⟨by omega, rfl, fun j hj hjM => by by_cases hji : j < i; (exact hno j hji hjM); by_cases hjk : j = k; (rw [hopn j hjM, hjk, hst]; cases xb.testBit k <;> rfl); (rw [hopn j hjM, q4 j (by omega) (by omega)]; rfl)⟩, hG, (lv_sub hl [1, 2, 3, 0] rfl)⟩
      · refine lv_iconst (v := zI 1) hx hb dX2_isOpen_25 (by decide +kernel) ?_
        have hG : gW X F V ((wi, aL (gT X 1) 1 fb) :: Z) s _ _ := hG.drop 0 rfl rfl
        have hG : gW X F V (Z) s _ _ := hG.drop 0 rfl rfl
        exact g_zret hx hb hr hlocks rfl hG (⟨by rw [show aOpen w x = true from anB_yes (k := k) hkM (by rw [hopn k hkM, q3]; cases hc : wSt w k with | false => rfl | true => (rw [hc] at h2; cases h2))]; rfl, rfl, rfl, rfl⟩) ⟨Nat.le_of_ble_eq_true rfl, Nat.le_of_ble_eq_true rfl⟩ dX2_isOpen_26

