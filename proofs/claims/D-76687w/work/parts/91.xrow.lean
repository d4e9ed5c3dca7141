set_option maxRecDepth 100000
/-! rows: an object that is done, its array by role -/
def rwE (X : gX) (so n : Nat) (f : Nat → Int64) : va_E := match so with
  | 0 => aI (gT X 3) n (fun i => (f i).toInt32)
  | 1 => aI (gT X 4) n (fun i => (f i).toInt32)
  | 2 => aI (gT X 0) n (fun i => (f i).toInt32)
  | _ => aL (gT X 1) n f
theorem tr_0 {v : Int64} (h : aTrunc 0 v = v) : v.toInt32.toInt64 = v := by
  have e : v.toInt32.toInt8.toInt32.toInt64 = v := h
  rw [← e, Int32.toInt32_toInt64]
theorem tr_1 {v : Int64} (h : aTrunc 1 v = v) : v.toInt32.toInt64 = v := by
  have e : v.toInt32.toInt16.toInt32.toInt64 = v := h
  rw [← e, Int32.toInt32_toInt64]
theorem tr_2 {v : Int64} (h : aTrunc 2 v = v) : v.toInt32.toInt64 = v := h
theorem upd_tr {f : Nat → Int64} {i : Nat} {y : Int32} {w : Int64} (h : w.toInt32 = y) : upd (fun k => (f k).toInt32) i y = fun k => (va_up f i w k).toInt32 := by
  funext k
  unfold upd
  by_cases e : k = i
  · rw [if_pos e, e, va_up_self, h]
  · rw [if_neg e, va_up_ne _ _ e]
theorem updL_tr {f : Nat → Int64} {i : Nat} {v : Int64} : vp_updL f i v = va_up f i v := by
  funext k
  unfold vp_updL
  by_cases e : k = i
  · rw [if_pos e, e, va_up_self]
  · rw [if_neg e, va_up_ne _ _ e]
theorem rwE_z (X : gX) (n : Nat) : aI (gT X 3) n (fun _ => 0) = rwE X 0 n (fun _ => 0) ∧ aI (gT X 4) n (fun _ => 0) = rwE X 1 n (fun _ => 0) ∧ aI (gT X 0) n (fun _ => 0) = rwE X 2 n (fun _ => 0) ∧ aL (gT X 1) n (fun _ => 0) = rwE X 3 n (fun _ => 0) := ⟨rfl, rfl, rfl, rfl⟩
def rwC : Nat → String
  | 0 => "LineRemarks$Bytes"
  | 1 => "LineRemarks$Shorts"
  | 2 => "LineRemarks$Ints"
  | _ => "LineRemarks$Longs"
set_option maxHeartbeats 4000000 in
theorem metX7_sort {l : Launch} {X : gX} {F : gF} {V : gV} {Z : va_W} {ro ar n rj : Nat} {f : Nat → Int64} (hro : F.1 ro = some (oB 5 [.ref ar])) (hV : V rj = some (ar, rwE X 0 n f)) : Met l yX7_sort (ws_ yX7_sort cX7_sort 1 (some FieldType.int)) ({ frames := 0, cells := 0, slots := 0, locals := 0 }) (gP X F V (Z) [.ref ro]) (gQi X (fun u G U ws => u = zI (0 : Nat) ∧ F = G ∧ V = U ∧ Z = ws)) 0 0 (gA X) := by
  refine Met.g (by decide) (Nat.le_of_ble_eq_true rfl) ?_
  intro p e s m below meth c ls hx hb hr hts hown hlocks hml hin hG hl
  have hl : lv_has ls 1 [(0, .ref ro)] := hl
  have hVr : V rj = some (ar, aI (gT X 3) n (fun i => (f i).toInt32)) := hV
  refine lv_iconst (v := zI 0) hx hb dX7_sort_0 (by decide +kernel) ?_
  exact g_iret hx hb hr hlocks hG (⟨rfl, rfl, rfl, rfl⟩) ⟨Nat.le_of_ble_eq_true rfl, Nat.le_of_ble_eq_true rfl⟩ dX7_sort_1

set_option maxHeartbeats 4000000 in
theorem metX7_length {l : Launch} {X : gX} {F : gF} {V : gV} {Z : va_W} {ro ar n rj : Nat} {f : Nat → Int64} (hro : F.1 ro = some (oB 5 [.ref ar])) (hV : V rj = some (ar, rwE X 0 n f)) : Met l yX7_length (ws_ yX7_length cX7_length 1 (some FieldType.int)) ({ frames := 0, cells := 0, slots := 0, locals := 0 }) (gP X F V (Z) [.ref ro]) (gQi X (fun u G U ws => u = zI (n : Int) ∧ F = G ∧ V = U ∧ Z = ws)) 0 0 (gA X) := by
  refine Met.g (by decide) (Nat.le_of_ble_eq_true rfl) ?_
  intro p e s m below meth c ls hx hb hr hts hown hlocks hml hin hG hl
  have hl : lv_has ls 1 [(0, .ref ro)] := hl
  have hVr : V rj = some (ar, aI (gT X 3) n (fun i => (f i).toInt32)) := hV
  refine lv_aload_n hx hb dX7_length_0 rfl (lv_at hl 0 rfl) ?_
  refine g_get (ci := 5) hx hb hts in_X7 hown hG (hG.fz hro) rfl 0 (Nat.le_of_ble_eq_true rfl) (hts _ q553) (fun _ h9 => h9) rfl dX7_length_1 ?_
  refine g_alen hx hb hG 3 rfl (hG.vo hVr) dX7_length_4 ?_
  exact g_iret hx hb hr hlocks hG (⟨rfl, rfl, rfl, rfl⟩) ⟨Nat.le_of_ble_eq_true rfl, Nat.le_of_ble_eq_true rfl⟩ dX7_length_5

set_option maxHeartbeats 4000000 in
theorem metX7_held {l : Launch} {X : gX} {F : gF} {V : gV} {Z : va_W} {ro ar n rj : Nat} {f : Nat → Int64} (hro : F.1 ro = some (oB 5 [.ref ar])) (hV : V rj = some (ar, rwE X 0 n f)) : Met l yX7_held (ws_ yX7_held cX7_held 1 (some (FieldType.object "java/lang/Object"))) ({ frames := 0, cells := 0, slots := 0, locals := 0 }) (gP X F V (Z) [.ref ro]) (gQr X (fun u G U ws => ar = u ∧ F = G ∧ V = U ∧ Z = ws)) 0 0 (gA X) := by
  refine Met.g (by decide) (Nat.le_of_ble_eq_true rfl) ?_
  intro p e s m below meth c ls hx hb hr hts hown hlocks hml hin hG hl
  have hl : lv_has ls 1 [(0, .ref ro)] := hl
  have hVr : V rj = some (ar, aI (gT X 3) n (fun i => (f i).toInt32)) := hV
  refine lv_aload_n hx hb dX7_held_0 rfl (lv_at hl 0 rfl) ?_
  refine g_get (ci := 5) hx hb hts in_X7 hown hG (hG.fz hro) rfl 0 (Nat.le_of_ble_eq_true rfl) (hts _ q553) (fun _ h9 => h9) rfl dX7_held_1 ?_
  exact g_rret hx hb hr (Or.inl ⟨_, rfl⟩) hlocks hG (⟨rfl, rfl, rfl, rfl⟩) ⟨Nat.le_of_ble_eq_true rfl, Nat.le_of_ble_eq_true rfl⟩ dX7_held_4

set_option maxHeartbeats 4000000 in
theorem metX7_get_t {l : Launch} {X : gX} {F : gF} {V : gV} {Z : va_W} {ro ar n rj : Nat} {f : Nat → Int64} (hro : F.1 ro = some (oB 5 [.ref ar])) (hV : V rj = some (ar, rwE X 0 n f)) {i : Nat} (hi9 : i < n ∧ n ≤ 160) (hfx : aTrunc 0 (f i) = f i) : Met l yX7_get (ws_ yX7_get cX7_get 2 (some FieldType.long)) ({ frames := 0, cells := 0, slots := 0, locals := 0 }) (gP X F V (Z) [.ref ro, .int (zI (i : Int))]) (gQl X (fun u G U ws => u = f i ∧ F = G ∧ V = U ∧ Z = ws)) 0 0 (gA X) := by
  refine Met.g (by decide) (Nat.le_of_ble_eq_true rfl) ?_
  intro p e s m below meth c ls hx hb hr hts hown hlocks hml hin hG hl
  have hl : lv_has ls 2 [(0, .ref ro), (1, .int (zI (i : Int)))] := hl
  have hVr : V rj = some (ar, aI (gT X 3) n (fun i => (f i).toInt32)) := hV
  refine lv_aload_n hx hb dX7_get_0 rfl (lv_at hl 0 rfl) ?_
  refine g_get (ci := 5) hx hb hts in_X7 hown hG (hG.fz hro) rfl 0 (Nat.le_of_ble_eq_true rfl) (hts _ q553) (fun _ h9 => h9) rfl dX7_get_1 ?_
  refine lv_iload_n hx hb dX7_get_4 rfl (lv_at hl 1 rfl) ?_
  refine g_bald hx hb hG (hG.vo hVr) i ⟨rfl, by omega, by omega⟩ (v := ((f i).toInt32)) rfl dX7_get_5 ?_
  refine lv_i2l (v := ((f i).toInt32).toInt64) hx hb dX7_get_6 rfl ?_
  exact g_lret hx hb hr hlocks hG (⟨tr_0 hfx, rfl, rfl, rfl⟩) ⟨Nat.le_of_ble_eq_true rfl, Nat.le_of_ble_eq_true rfl⟩ dX7_get_7

set_option maxHeartbeats 4000000 in
theorem metX7_get_f {l : Launch} {X : gX} {F : gF} {V : gV} {Z : va_W} {ro ar n rj : Nat} {f : Nat → Int64} (hro : F.1 ro = some (oB 5 [.ref ar])) (hV : V rj = some (ar, rwE X 0 n f)) {i : Int} (hst : l.stackTraces = false) (hi9 : (i < 0 ∨ (n : Int) ≤ i) ∧ -2147483648 ≤ i ∧ i < 2147483648 ∧ n ≤ 160) : vx_Met l yX7_get (ws_ yX7_get cX7_get 2 (some FieldType.long)) ({ frames := 8, cells := 3, slots := 222, locals := 10248 }) (gP X F V (Z) [.ref ro, .int (zI i)]) (gQl X (fun _ _ _ _ => False)) (gXc X (fun E q G U ws => E = "java/lang/ArrayIndexOutOfBoundsException" ∧ F = G ∧ V = U ∧ Z = ws)) 3 222 (gA X) := by
  refine vx_Met.g (by decide) (Nat.le_of_ble_eq_true rfl) ?_
  intro p e s m below meth c ls hx hb hr hts hown hlocks hml hin hnt hG hl
  have hl : lv_has ls 2 [(0, .ref ro), (1, .int (zI i))] := hl
  have hVr : V rj = some (ar, aI (gT X 3) n (fun i => (f i).toInt32)) := hV
  refine lv_aload_n hx hb dX7_get_0 rfl (lv_at hl 0 rfl) ?_
  refine g_get (ci := 5) hx hb hts in_X7 hown hG (hG.fz hro) rfl 0 (Nat.le_of_ble_eq_true rfl) (hts _ q553) (fun _ h9 => h9) rfl dX7_get_1 ?_
  refine lv_iload_n hx hb dX7_get_4 rfl (lv_at hl 1 rfl) ?_
  refine vx_baldZ hx hb hG.K (gone (hG.vo hVr)) 0 3 rfl rfl (vpout (by omega)) dX7_get_5 (g_aioobe hx hst hts hG (hml.trans hl.1.symm).symm (by omega) (Nat.le_of_ble_eq_true rfl) (Nat.le_of_ble_eq_true rfl) ⟨Nat.le_of_ble_eq_true rfl, Nat.le_of_ble_eq_true rfl⟩ hlocks (fun H q9 ce9 hG hce => ?_))
  exact g_out hown hlocks (fun z9 hz9 => (hnt z9 hz9).elim) hG hce (⟨rfl, rfl, rfl, rfl⟩) ⟨Nat.le_of_ble_eq_true rfl, Nat.le_of_ble_eq_true rfl⟩

set_option maxHeartbeats 4000000 in
theorem metX7_put_t {l : Launch} {X : gX} {F : gF} {V : gV} {Z : va_W} {ro ar n rj : Nat} {f : Nat → Int64} (hro : F.1 ro = some (oB 5 [.ref ar])) (hV : V rj = some (ar, rwE X 0 n f)) {i : Nat} {v : Int64} (hi9 : i < n ∧ n ≤ 160) : Met l yX7_put (ws_ yX7_put cX7_put 4 none) ({ frames := 0, cells := 0, slots := 0, locals := 0 }) (gP X F V (Z) [.ref ro, .int (zI (i : Int)), .long v]) (gQv X (fun G U ws => F = G ∧ va_up V rj (some (ar, rwE X 0 n (va_up f i (aTrunc 0 v)))) = U ∧ Z = ws)) 0 0 (gA X) := by
  refine Met.g (by decide) (Nat.le_of_ble_eq_true rfl) ?_
  intro p e s m below meth c ls hx hb hr hts hown hlocks hml hin hG hl
  have hl : lv_has ls 4 [(0, .ref ro), (1, .int (zI (i : Int))), (2, .long v)] := hl
  have hVr : V rj = some (ar, aI (gT X 3) n (fun i => (f i).toInt32)) := hV
  refine lv_aload_n hx hb dX7_put_0 rfl (lv_at hl 0 rfl) ?_
  refine g_get (ci := 5) hx hb hts in_X7 hown hG (hG.fz hro) rfl 0 (Nat.le_of_ble_eq_true rfl) (hts _ q553) (fun _ h9 => h9) rfl dX7_put_1 ?_
  refine lv_iload_n hx hb dX7_put_4 rfl (lv_at hl 1 rfl) ?_
  refine lv_lload_n hx hb dX7_put_5 rfl (lv_at hl 2 rfl) ?_
  refine lv_l2i (v := v.toInt32) hx hb dX7_put_6 rfl ?_
  refine lv_i2b (v := v.toInt32.toInt8.toInt32) hx hb dX7_put_7 rfl ?_
  refine g_bastV hx hb hG hVr i ⟨rfl, by omega, by omega⟩ (y := v.toInt32.toInt8.toInt32) (congrArg Value.int (show v.toInt32.toInt8.toInt32.toInt8.toInt32 = v.toInt32.toInt8.toInt32 from by simp)) dX7_put_8 (fun H locs (hG : gW X F (va_up V rj (some (ar, aI (gT X 3) n (upd (fun i => (f i).toInt32) i v.toInt32.toInt8.toInt32)))) (Z) s H locs) => ?_)
  have hVr : (va_up V rj (some (ar, aI (gT X 3) n (upd (fun i => (f i).toInt32) i v.toInt32.toInt8.toInt32)))) rj = some (ar, aI (gT X 3) n (upd (fun i => (f i).toInt32) i v.toInt32.toInt8.toInt32)) := vus
  exact g_vret hx hb hr hlocks hG (⟨rfl, by rw [show aI (gT X 3) n (upd (fun i => (f i).toInt32) i v.toInt32.toInt8.toInt32) = rwE X 0 n (va_up f i (aTrunc 0 v)) from congrArg (fun z => (.inl (gT X 3, n, .inl z) : va_E)) (upd_tr (Int32.toInt32_toInt64 _))], rfl⟩) ⟨Nat.le_of_ble_eq_true rfl, Nat.le_of_ble_eq_true rfl⟩ dX7_put_9

set_option maxHeartbeats 4000000 in
theorem metX7_put_f {l : Launch} {X : gX} {F : gF} {V : gV} {Z : va_W} {ro ar n rj : Nat} {f : Nat → Int64} (hro : F.1 ro = some (oB 5 [.ref ar])) (hV : V rj = some (ar, rwE X 0 n f)) {v : Int64} {i : Int} (hst : l.stackTraces = false) (hi9 : (i < 0 ∨ (n : Int) ≤ i) ∧ -2147483648 ≤ i ∧ i < 2147483648 ∧ n ≤ 160) : vx_Met l yX7_put (ws_ yX7_put cX7_put 4 none) ({ frames := 8, cells := 3, slots := 222, locals := 10248 }) (gP X F V (Z) [.ref ro, .int (zI i), .long v]) (gQv X (fun _ _ _ => False)) (gXc X (fun E q G U ws => E = "java/lang/ArrayIndexOutOfBoundsException" ∧ F = G ∧ V = U ∧ Z = ws)) 3 222 (gA X) := by
  refine vx_Met.g (by decide) (Nat.le_of_ble_eq_true rfl) ?_
  intro p e s m below meth c ls hx hb hr hts hown hlocks hml hin hnt hG hl
  have hl : lv_has ls 4 [(0, .ref ro), (1, .int (zI i)), (2, .long v)] := hl
  have hVr : V rj = some (ar, aI (gT X 3) n (fun i => (f i).toInt32)) := hV
  refine lv_aload_n hx hb dX7_put_0 rfl (lv_at hl 0 rfl) ?_
  refine g_get (ci := 5) hx hb hts in_X7 hown hG (hG.fz hro) rfl 0 (Nat.le_of_ble_eq_true rfl) (hts _ q553) (fun _ h9 => h9) rfl dX7_put_1 ?_
  refine lv_iload_n hx hb dX7_put_4 rfl (lv_at hl 1 rfl) ?_
  refine lv_lload_n hx hb dX7_put_5 rfl (lv_at hl 2 rfl) ?_
  refine lv_l2i (v := v.toInt32) hx hb dX7_put_6 rfl ?_
  refine lv_i2b (v := v.toInt32.toInt8.toInt32) hx hb dX7_put_7 rfl ?_
  refine vx_bastZ hx hb hG.K (gone (hG.vo hVr)) 0 3 rfl rfl (vpout (by omega)) dX7_put_8 (g_aioobe hx hst hts hG (hml.trans hl.1.symm).symm (by omega) (Nat.le_of_ble_eq_true rfl) (Nat.le_of_ble_eq_true rfl) ⟨Nat.le_of_ble_eq_true rfl, Nat.le_of_ble_eq_true rfl⟩ hlocks (fun H q9 ce9 hG hce => ?_))
  exact g_out hown hlocks (fun z9 hz9 => (hnt z9 hz9).elim) hG hce (⟨rfl, rfl, rfl, rfl⟩) ⟨Nat.le_of_ble_eq_true rfl, Nat.le_of_ble_eq_true rfl⟩

set_option maxHeartbeats 4000000 in
theorem metX6_init {l : Launch} {X : gX} {F : gF} {V : gV} {Z : va_W} {ro : Nat} : Met l yX6_init (ws_ yX6_init cX6_init 1 none) ({ frames := 1, cells := 0, slots := 0, locals := 20 }) (gP X F V (Z) [.ref ro]) (gQv X (fun G U ws => F = G ∧ V = U ∧ Z = ws)) 0 0 (gA X) := by
  refine Met.g (by decide) (Nat.le_of_ble_eq_true rfl) ?_
  intro p e s m below meth c ls hx hb hr hts hown hlocks hml hin hG hl
  have hl : lv_has ls 1 [(0, .ref ro)] := hl
  refine lv_aload_n hx hb dX6_init_0 rfl (lv_at hl 0 rfl) ?_
  refine W.objInit hx hb hown (hts _ q552) (hts _ q170) (hts _ q171) rfl (by rw [hml]; exact hl.1) rfl dX6_init_1 (Nat.le_of_ble_eq_true rfl) (Nat.le_of_ble_eq_true rfl) ?_
  refine W.eq (g2 := F0 m 4 ls []) rfl ?_
  exact g_vret hx hb hr hlocks hG (⟨rfl, rfl, rfl⟩) ⟨Nat.le_of_ble_eq_true rfl, Nat.le_of_ble_eq_true rfl⟩ dX6_init_4

set_option maxHeartbeats 4000000 in
theorem metX7_init {l : Launch} {X : gX} {F : gF} {V : gV} {Z : va_W} {ro n : Nat} (hn9 : n ≤ 160) : Met l yX7_init (ws_ yX7_init cX7_init 2 none) ({ frames := 2, cells := 1, slots := 160, locals := 40 }) (gP X F V ((ro, oB 5 [.null]) :: Z) [.ref ro, .int (zI (n : Int))]) (gQv X (fun G U ws => F = G ∧ V = U ∧ ∃ ar : Nat, ((ro, oB 5 [.ref ar]) :: (ar, rwE X 0 n (fun _ => 0)) :: Z) = ws)) 1 160 (gA X) := by
  refine Met.g (by decide) (Nat.le_of_ble_eq_true rfl) ?_
  intro p e s m below meth c ls hx hb hr hts hown hlocks hml hin hG hl
  have hl : lv_has ls 2 [(0, .ref ro), (1, .int (zI (n : Int)))] := hl
  refine lv_aload_n hx hb dX7_init_0 rfl (lv_at hl 0 rfl) ?_
  refine g_cv (va_runI (As := []) (rest := []) ⟨hx, hb, hml, hown, hts⟩ (metX6_init) (cwI 0 hts (lw_meth q551) rfl rfl rfl (hts _ q111) (hts _ q549) (hts _ q550) rfl (by decide +kernel) ⟨Nat.le_of_ble_eq_true rfl, Nat.le_of_ble_eq_true rfl⟩) (g_preS hG) rfl rfl hl.1 rfl (lv_room (Nat.le_of_ble_eq_true rfl)) dX7_init_1 ⟨by show _ ≤ 1; omega, by show _ ≤ 160; omega⟩) hG (fun F_2 V_3 ws_ H locs hp hG => ?_)
  obtain ⟨rfl, rfl, rfl⟩ := hp
  have hG : gW X F V ((ro, oB 5 [.null]) :: Z) s H locs := hG
  refine lv_aload_n hx hb dX7_init_4 rfl (lv_at hl 0 rfl) ?_
  refine lv_iload_n hx hb dX7_init_5 rfl (lv_at hl 1 rfl) ?_
  refine g_newa (atype := .byte) hx hb (hts _ q492) 3 rfl rfl (fun h => h) hG (N := n) (a0 := (n, .inl (fun _ => 0))) (fun _ => rfl) ⟨rfl, by omega⟩ (by decide) ⟨by show _ ≤ 1; omega, by show _ ≤ 160; omega⟩ dX7_init_6 (fun ar H (hG : gW X F V ((ar, aI (gT X 3) n (fun _ => 0)) :: (ro, oB 5 [.null]) :: Z) s H _) => ?_)
  refine g_putF (ci := 5) hx hb hts in_X7 tyX7 tyX7_ok nmX7 hown hin hG 1 rfl rfl 0 (Nat.le_of_ble_eq_true rfl) (hts _ q553) (fun _ h9 => h9) rfl rfl (tyX7_ok 0 (Nat.le_of_ble_eq_true rfl)) rfl rfl (Nat.le_of_ble_eq_true rfl) dX7_init_8 (fun H locs (hG : gW X F V ((ar, aI (gT X 3) n (fun _ => 0)) :: (ro, oB 5 [.ref ar]) :: Z) s H locs) => ?_)
  have hG : gW X F V ((ro, oB 5 [.ref ar]) :: (ar, aI (gT X 3) n (fun _ => 0)) :: Z) s _ _ := hG.pull 1 rfl rfl
  exact g_vret hx hb hr hlocks hG (⟨rfl, rfl, ar, rfl⟩) ⟨by show _ ≤ 1; omega, by show _ ≤ 160; omega⟩ dX7_init_11

set_option maxHeartbeats 4000000 in
theorem metX6_asInt_0 {l : Launch} {X : gX} {F : gF} {V : gV} {Z : va_W} {ro ar n rj : Nat} {f : Nat → Int64} (hro : F.1 ro = some (oB 5 [.ref ar])) (hV : V rj = some (ar, rwE X 0 n f)) {i : Nat} (hi9 : i < n ∧ n ≤ 160) (hfx : aTrunc 0 (f i) = f i) : Met l yX6_asInt (ws_ yX6_asInt cX6_asInt 2 (some FieldType.int)) ({ frames := 1, cells := 0, slots := 0, locals := 21 }) (gP X F V (Z) [.ref ro, .int (zI (i : Int))]) (gQi X (fun u G U ws => u = (f i).toInt32 ∧ F = G ∧ V = U ∧ Z = ws)) 0 0 (gA X) := by
  refine Met.g (by decide) (Nat.le_of_ble_eq_true rfl) ?_
  intro p e s m below meth c ls hx hb hr hts hown hlocks hml hin hG hl
  have hl : lv_has ls 2 [(0, .ref ro), (1, .int (zI (i : Int)))] := hl
  have hVr : V rj = some (ar, aI (gT X 3) n (fun i => (f i).toInt32)) := hV
  refine lv_aload_n hx hb dX6_asInt_0 rfl (lv_at hl 0 rfl) ?_
  refine lv_iload_n hx hb dX6_asInt_1 rfl (lv_at hl 1 rfl) ?_
  refine g_cl (va_runU (C := "LineRemarks$Bytes") (As := [.int (zI (i : Int))]) (rest := []) ⟨hx, hb, hml, hown, hts⟩ (metX7_get_t hro hV hi9 hfx) (va_cwA 1 hts (lw_U q834 q683 q684 q685 q112 q686) rfl rfl rfl (hG.1.2.1.1 _ qn682) (by decide +kernel) ⟨Nat.le_of_ble_eq_true rfl, Nat.le_of_ble_eq_true rfl⟩) (g_preV hG (g_recv hG (hG.fz hro) (ci := 5) rfl)) rfl rfl hl.1 rfl (lv_room (Nat.le_of_ble_eq_true rfl)) dX6_asInt_2 ⟨Nat.le_of_ble_eq_true rfl, Nat.le_of_ble_eq_true rfl⟩) hG (fun r_1 F_2 V_3 ws_ H locs hp hG => ?_)
  obtain ⟨rfl, rfl, rfl, rfl⟩ := hp
  have hG : gW X F V (Z) s H locs := hG
  refine lv_l2i (v := (f i).toInt32) hx hb dX6_asInt_5 rfl ?_
  exact g_iret hx hb hr hlocks hG (⟨rfl, rfl, rfl, rfl⟩) ⟨Nat.le_of_ble_eq_true rfl, Nat.le_of_ble_eq_true rfl⟩ dX6_asInt_6

set_option maxHeartbeats 4000000 in
theorem metX8_sort {l : Launch} {X : gX} {F : gF} {V : gV} {Z : va_W} {ro ar n rj : Nat} {f : Nat → Int64} (hro : F.1 ro = some (oB 6 [.ref ar])) (hV : V rj = some (ar, rwE X 1 n f)) : Met l yX8_sort (ws_ yX8_sort cX8_sort 1 (some FieldType.int)) ({ frames := 0, cells := 0, slots := 0, locals := 0 }) (gP X F V (Z) [.ref ro]) (gQi X (fun u G U ws => u = zI (1 : Nat) ∧ F = G ∧ V = U ∧ Z = ws)) 0 0 (gA X) := by
  refine Met.g (by decide) (Nat.le_of_ble_eq_true rfl) ?_
  intro p e s m below meth c ls hx hb hr hts hown hlocks hml hin hG hl
  have hl : lv_has ls 1 [(0, .ref ro)] := hl
  have hVr : V rj = some (ar, aI (gT X 4) n (fun i => (f i).toInt32)) := hV
  refine lv_iconst (v := zI 1) hx hb dX8_sort_0 (by decide +kernel) ?_
  exact g_iret hx hb hr hlocks hG (⟨rfl, rfl, rfl, rfl⟩) ⟨Nat.le_of_ble_eq_true rfl, Nat.le_of_ble_eq_true rfl⟩ dX8_sort_1

set_option maxHeartbeats 4000000 in
theorem metX8_length {l : Launch} {X : gX} {F : gF} {V : gV} {Z : va_W} {ro ar n rj : Nat} {f : Nat → Int64} (hro : F.1 ro = some (oB 6 [.ref ar])) (hV : V rj = some (ar, rwE X 1 n f)) : Met l yX8_length (ws_ yX8_length cX8_length 1 (some FieldType.int)) ({ frames := 0, cells := 0, slots := 0, locals := 0 }) (gP X F V (Z) [.ref ro]) (gQi X (fun u G U ws => u = zI (n : Int) ∧ F = G ∧ V = U ∧ Z = ws)) 0 0 (gA X) := by
  refine Met.g (by decide) (Nat.le_of_ble_eq_true rfl) ?_
  intro p e s m below meth c ls hx hb hr hts hown hlocks hml hin hG hl
  have hl : lv_has ls 1 [(0, .ref ro)] := hl
  have hVr : V rj = some (ar, aI (gT X 4) n (fun i => (f i).toInt32)) := hV
  refine lv_aload_n hx hb dX8_length_0 rfl (lv_at hl 0 rfl) ?_
  refine g_get (ci := 6) hx hb hts in_X8 hown hG (hG.fz hro) rfl 0 (Nat.le_of_ble_eq_true rfl) (hts _ q563) (fun _ h9 => h9) rfl dX8_length_1 ?_
  refine g_alen hx hb hG 4 rfl (hG.vo hVr) dX8_length_4 ?_
  exact g_iret hx hb hr hlocks hG (⟨rfl, rfl, rfl, rfl⟩) ⟨Nat.le_of_ble_eq_true rfl, Nat.le_of_ble_eq_true rfl⟩ dX8_length_5

set_option maxHeartbeats 4000000 in
theorem metX8_held {l : Launch} {X : gX} {F : gF} {V : gV} {Z : va_W} {ro ar n rj : Nat} {f : Nat → Int64} (hro : F.1 ro = some (oB 6 [.ref ar])) (hV : V rj = some (ar, rwE X 1 n f)) : Met l yX8_held (ws_ yX8_held cX8_held 1 (some (FieldType.object "java/lang/Object"))) ({ frames := 0, cells := 0, slots := 0, locals := 0 }) (gP X F V (Z) [.ref ro]) (gQr X (fun u G U ws => ar = u ∧ F = G ∧ V = U ∧ Z = ws)) 0 0 (gA X) := by
  refine Met.g (by decide) (Nat.le_of_ble_eq_true rfl) ?_
  intro p e s m below meth c ls hx hb hr hts hown hlocks hml hin hG hl
  have hl : lv_has ls 1 [(0, .ref ro)] := hl
  have hVr : V rj = some (ar, aI (gT X 4) n (fun i => (f i).toInt32)) := hV
  refine lv_aload_n hx hb dX8_held_0 rfl (lv_at hl 0 rfl) ?_
  refine g_get (ci := 6) hx hb hts in_X8 hown hG (hG.fz hro) rfl 0 (Nat.le_of_ble_eq_true rfl) (hts _ q563) (fun _ h9 => h9) rfl dX8_held_1 ?_
  exact g_rret hx hb hr (Or.inl ⟨_, rfl⟩) hlocks hG (⟨rfl, rfl, rfl, rfl⟩) ⟨Nat.le_of_ble_eq_true rfl, Nat.le_of_ble_eq_true rfl⟩ dX8_held_4

set_option maxHeartbeats 4000000 in
theorem metX8_get_t {l : Launch} {X : gX} {F : gF} {V : gV} {Z : va_W} {ro ar n rj : Nat} {f : Nat → Int64} (hro : F.1 ro = some (oB 6 [.ref ar])) (hV : V rj = some (ar, rwE X 1 n f)) {i : Nat} (hi9 : i < n ∧ n ≤ 160) (hfx : aTrunc 1 (f i) = f i) : Met l yX8_get (ws_ yX8_get cX8_get 2 (some FieldType.long)) ({ frames := 0, cells := 0, slots := 0, locals := 0 }) (gP X F V (Z) [.ref ro, .int (zI (i : Int))]) (gQl X (fun u G U ws => u = f i ∧ F = G ∧ V = U ∧ Z = ws)) 0 0 (gA X) := by
  refine Met.g (by decide) (Nat.le_of_ble_eq_true rfl) ?_
  intro p e s m below meth c ls hx hb hr hts hown hlocks hml hin hG hl
  have hl : lv_has ls 2 [(0, .ref ro), (1, .int (zI (i : Int)))] := hl
  have hVr : V rj = some (ar, aI (gT X 4) n (fun i => (f i).toInt32)) := hV
  refine lv_aload_n hx hb dX8_get_0 rfl (lv_at hl 0 rfl) ?_
  refine g_get (ci := 6) hx hb hts in_X8 hown hG (hG.fz hro) rfl 0 (Nat.le_of_ble_eq_true rfl) (hts _ q563) (fun _ h9 => h9) rfl dX8_get_1 ?_
  refine lv_iload_n hx hb dX8_get_4 rfl (lv_at hl 1 rfl) ?_
  refine g_sald hx hb hG (hG.vo hVr) i ⟨rfl, by omega, by omega⟩ (v := ((f i).toInt32)) rfl dX8_get_5 ?_
  refine lv_i2l (v := ((f i).toInt32).toInt64) hx hb dX8_get_6 rfl ?_
  exact g_lret hx hb hr hlocks hG (⟨tr_1 hfx, rfl, rfl, rfl⟩) ⟨Nat.le_of_ble_eq_true rfl, Nat.le_of_ble_eq_true rfl⟩ dX8_get_7

set_option maxHeartbeats 4000000 in
theorem metX8_get_f {l : Launch} {X : gX} {F : gF} {V : gV} {Z : va_W} {ro ar n rj : Nat} {f : Nat → Int64} (hro : F.1 ro = some (oB 6 [.ref ar])) (hV : V rj = some (ar, rwE X 1 n f)) {i : Int} (hst : l.stackTraces = false) (hi9 : (i < 0 ∨ (n : Int) ≤ i) ∧ -2147483648 ≤ i ∧ i < 2147483648 ∧ n ≤ 160) : vx_Met l yX8_get (ws_ yX8_get cX8_get 2 (some FieldType.long)) ({ frames := 8, cells := 3, slots := 222, locals := 10248 }) (gP X F V (Z) [.ref ro, .int (zI i)]) (gQl X (fun _ _ _ _ => False)) (gXc X (fun E q G U ws => E = "java/lang/ArrayIndexOutOfBoundsException" ∧ F = G ∧ V = U ∧ Z = ws)) 3 222 (gA X) := by
  refine vx_Met.g (by decide) (Nat.le_of_ble_eq_true rfl) ?_
  intro p e s m below meth c ls hx hb hr hts hown hlocks hml hin hnt hG hl
  have hl : lv_has ls 2 [(0, .ref ro), (1, .int (zI i))] := hl
  have hVr : V rj = some (ar, aI (gT X 4) n (fun i => (f i).toInt32)) := hV
  refine lv_aload_n hx hb dX8_get_0 rfl (lv_at hl 0 rfl) ?_
  refine g_get (ci := 6) hx hb hts in_X8 hown hG (hG.fz hro) rfl 0 (Nat.le_of_ble_eq_true rfl) (hts _ q563) (fun _ h9 => h9) rfl dX8_get_1 ?_
  refine lv_iload_n hx hb dX8_get_4 rfl (lv_at hl 1 rfl) ?_
  refine vx_saldZ hx hb hG.K (gone (hG.vo hVr)) 0 4 rfl rfl (vpout (by omega)) dX8_get_5 (g_aioobe hx hst hts hG (hml.trans hl.1.symm).symm (by omega) (Nat.le_of_ble_eq_true rfl) (Nat.le_of_ble_eq_true rfl) ⟨Nat.le_of_ble_eq_true rfl, Nat.le_of_ble_eq_true rfl⟩ hlocks (fun H q9 ce9 hG hce => ?_))
  exact g_out hown hlocks (fun z9 hz9 => (hnt z9 hz9).elim) hG hce (⟨rfl, rfl, rfl, rfl⟩) ⟨Nat.le_of_ble_eq_true rfl, Nat.le_of_ble_eq_true rfl⟩

set_option maxHeartbeats 4000000 in
theorem metX8_put_t {l : Launch} {X : gX} {F : gF} {V : gV} {Z : va_W} {ro ar n rj : Nat} {f : Nat → Int64} (hro : F.1 ro = some (oB 6 [.ref ar])) (hV : V rj = some (ar, rwE X 1 n f)) {i : Nat} {v : Int64} (hi9 : i < n ∧ n ≤ 160) : Met l yX8_put (ws_ yX8_put cX8_put 4 none) ({ frames := 0, cells := 0, slots := 0, locals := 0 }) (gP X F V (Z) [.ref ro, .int (zI (i : Int)), .long v]) (gQv X (fun G U ws => F = G ∧ va_up V rj (some (ar, rwE X 1 n (va_up f i (aTrunc 1 v)))) = U ∧ Z = ws)) 0 0 (gA X) := by
  refine Met.g (by decide) (Nat.le_of_ble_eq_true rfl) ?_
  intro p e s m below meth c ls hx hb hr hts hown hlocks hml hin hG hl
  have hl : lv_has ls 4 [(0, .ref ro), (1, .int (zI (i : Int))), (2, .long v)] := hl
  have hVr : V rj = some (ar, aI (gT X 4) n (fun i => (f i).toInt32)) := hV
  refine lv_aload_n hx hb dX8_put_0 rfl (lv_at hl 0 rfl) ?_
  refine g_get (ci := 6) hx hb hts in_X8 hown hG (hG.fz hro) rfl 0 (Nat.le_of_ble_eq_true rfl) (hts _ q563) (fun _ h9 => h9) rfl dX8_put_1 ?_
  refine lv_iload_n hx hb dX8_put_4 rfl (lv_at hl 1 rfl) ?_
  refine lv_lload_n hx hb dX8_put_5 rfl (lv_at hl 2 rfl) ?_
  refine lv_l2i (v := v.toInt32) hx hb dX8_put_6 rfl ?_
  refine lv_i2s (v := v.toInt32.toInt16.toInt32) hx hb dX8_put_7 rfl ?_
  refine g_sastV hx hb hG hVr i ⟨rfl, by omega, by omega⟩ (y := v.toInt32.toInt16.toInt32) (congrArg Value.int (show v.toInt32.toInt16.toInt32.toInt16.toInt32 = v.toInt32.toInt16.toInt32 from by simp)) dX8_put_8 (fun H locs (hG : gW X F (va_up V rj (some (ar, aI (gT X 4) n (upd (fun i => (f i).toInt32) i v.toInt32.toInt16.toInt32)))) (Z) s H locs) => ?_)
  have hVr : (va_up V rj (some (ar, aI (gT X 4) n (upd (fun i => (f i).toInt32) i v.toInt32.toInt16.toInt32)))) rj = some (ar, aI (gT X 4) n (upd (fun i => (f i).toInt32) i v.toInt32.toInt16.toInt32)) := vus
  exact g_vret hx hb hr hlocks hG (⟨rfl, by rw [show aI (gT X 4) n (upd (fun i => (f i).toInt32) i v.toInt32.toInt16.toInt32) = rwE X 1 n (va_up f i (aTrunc 1 v)) from congrArg (fun z => (.inl (gT X 4, n, .inl z) : va_E)) (upd_tr (Int32.toInt32_toInt64 _))], rfl⟩) ⟨Nat.le_of_ble_eq_true rfl, Nat.le_of_ble_eq_true rfl⟩ dX8_put_9

set_option maxHeartbeats 4000000 in
theorem metX8_put_f {l : Launch} {X : gX} {F : gF} {V : gV} {Z : va_W} {ro ar n rj : Nat} {f : Nat → Int64} (hro : F.1 ro = some (oB 6 [.ref ar])) (hV : V rj = some (ar, rwE X 1 n f)) {v : Int64} {i : Int} (hst : l.stackTraces = false) (hi9 : (i < 0 ∨ (n : Int) ≤ i) ∧ -2147483648 ≤ i ∧ i < 2147483648 ∧ n ≤ 160) : vx_Met l yX8_put (ws_ yX8_put cX8_put 4 none) ({ frames := 8, cells := 3, slots := 222, locals := 10248 }) (gP X F V (Z) [.ref ro, .int (zI i), .long v]) (gQv X (fun _ _ _ => False)) (gXc X (fun E q G U ws => E = "java/lang/ArrayIndexOutOfBoundsException" ∧ F = G ∧ V = U ∧ Z = ws)) 3 222 (gA X) := by
  refine vx_Met.g (by decide) (Nat.le_of_ble_eq_true rfl) ?_
  intro p e s m below meth c ls hx hb hr hts hown hlocks hml hin hnt hG hl
  have hl : lv_has ls 4 [(0, .ref ro), (1, .int (zI i)), (2, .long v)] := hl
  have hVr : V rj = some (ar, aI (gT X 4) n (fun i => (f i).toInt32)) := hV
  refine lv_aload_n hx hb dX8_put_0 rfl (lv_at hl 0 rfl) ?_
  refine g_get (ci := 6) hx hb hts in_X8 hown hG (hG.fz hro) rfl 0 (Nat.le_of_ble_eq_true rfl) (hts _ q563) (fun _ h9 => h9) rfl dX8_put_1 ?_
  refine lv_iload_n hx hb dX8_put_4 rfl (lv_at hl 1 rfl) ?_
  refine lv_lload_n hx hb dX8_put_5 rfl (lv_at hl 2 rfl) ?_
  refine lv_l2i (v := v.toInt32) hx hb dX8_put_6 rfl ?_
  refine lv_i2s (v := v.toInt32.toInt16.toInt32) hx hb dX8_put_7 rfl ?_
  refine vx_sastZ hx hb hG.K (gone (hG.vo hVr)) 0 4 rfl rfl (vpout (by omega)) dX8_put_8 (g_aioobe hx hst hts hG (hml.trans hl.1.symm).symm (by omega) (Nat.le_of_ble_eq_true rfl) (Nat.le_of_ble_eq_true rfl) ⟨Nat.le_of_ble_eq_true rfl, Nat.le_of_ble_eq_true rfl⟩ hlocks (fun H q9 ce9 hG hce => ?_))
  exact g_out hown hlocks (fun z9 hz9 => (hnt z9 hz9).elim) hG hce (⟨rfl, rfl, rfl, rfl⟩) ⟨Nat.le_of_ble_eq_true rfl, Nat.le_of_ble_eq_true rfl⟩

set_option maxHeartbeats 4000000 in
theorem metX8_init {l : Launch} {X : gX} {F : gF} {V : gV} {Z : va_W} {ro n : Nat} (hn9 : n ≤ 160) : Met l yX8_init (ws_ yX8_init cX8_init 2 none) ({ frames := 2, cells := 1, slots := 160, locals := 40 }) (gP X F V ((ro, oB 6 [.null]) :: Z) [.ref ro, .int (zI (n : Int))]) (gQv X (fun G U ws => F = G ∧ V = U ∧ ∃ ar : Nat, ((ro, oB 6 [.ref ar]) :: (ar, rwE X 1 n (fun _ => 0)) :: Z) = ws)) 1 160 (gA X) := by
  refine Met.g (by decide) (Nat.le_of_ble_eq_true rfl) ?_
  intro p e s m below meth c ls hx hb hr hts hown hlocks hml hin hG hl
  have hl : lv_has ls 2 [(0, .ref ro), (1, .int (zI (n : Int)))] := hl
  refine lv_aload_n hx hb dX8_init_0 rfl (lv_at hl 0 rfl) ?_
  refine g_cv (va_runI (As := []) (rest := []) ⟨hx, hb, hml, hown, hts⟩ (metX6_init) (cwI 0 hts (lw_meth q551) rfl rfl rfl (hts _ q111) (hts _ q562) (hts _ q550) rfl (by decide +kernel) ⟨Nat.le_of_ble_eq_true rfl, Nat.le_of_ble_eq_true rfl⟩) (g_preS hG) rfl rfl hl.1 rfl (lv_room (Nat.le_of_ble_eq_true rfl)) dX8_init_1 ⟨by show _ ≤ 1; omega, by show _ ≤ 160; omega⟩) hG (fun F_2 V_3 ws_ H locs hp hG => ?_)
  obtain ⟨rfl, rfl, rfl⟩ := hp
  have hG : gW X F V ((ro, oB 6 [.null]) :: Z) s H locs := hG
  refine lv_aload_n hx hb dX8_init_4 rfl (lv_at hl 0 rfl) ?_
  refine lv_iload_n hx hb dX8_init_5 rfl (lv_at hl 1 rfl) ?_
  refine g_newa (atype := .short) hx hb (hts _ q567) 4 rfl rfl (fun h => h) hG (N := n) (a0 := (n, .inl (fun _ => 0))) (fun _ => rfl) ⟨rfl, by omega⟩ (by decide) ⟨by show _ ≤ 1; omega, by show _ ≤ 160; omega⟩ dX8_init_6 (fun ar H (hG : gW X F V ((ar, aI (gT X 4) n (fun _ => 0)) :: (ro, oB 6 [.null]) :: Z) s H _) => ?_)
  refine g_putF (ci := 6) hx hb hts in_X8 tyX8 tyX8_ok nmX8 hown hin hG 1 rfl rfl 0 (Nat.le_of_ble_eq_true rfl) (hts _ q563) (fun _ h9 => h9) rfl rfl (tyX8_ok 0 (Nat.le_of_ble_eq_true rfl)) rfl rfl (Nat.le_of_ble_eq_true rfl) dX8_init_8 (fun H locs (hG : gW X F V ((ar, aI (gT X 4) n (fun _ => 0)) :: (ro, oB 6 [.ref ar]) :: Z) s H locs) => ?_)
  have hG : gW X F V ((ro, oB 6 [.ref ar]) :: (ar, aI (gT X 4) n (fun _ => 0)) :: Z) s _ _ := hG.pull 1 rfl rfl
  exact g_vret hx hb hr hlocks hG (⟨rfl, rfl, ar, rfl⟩) ⟨by show _ ≤ 1; omega, by show _ ≤ 160; omega⟩ dX8_init_11

set_option maxHeartbeats 4000000 in
theorem metX6_asInt_1 {l : Launch} {X : gX} {F : gF} {V : gV} {Z : va_W} {ro ar n rj : Nat} {f : Nat → Int64} (hro : F.1 ro = some (oB 6 [.ref ar])) (hV : V rj = some (ar, rwE X 1 n f)) {i : Nat} (hi9 : i < n ∧ n ≤ 160) (hfx : aTrunc 1 (f i) = f i) : Met l yX6_asInt (ws_ yX6_asInt cX6_asInt 2 (some FieldType.int)) ({ frames := 1, cells := 0, slots := 0, locals := 21 }) (gP X F V (Z) [.ref ro, .int (zI (i : Int))]) (gQi X (fun u G U ws => u = (f i).toInt32 ∧ F = G ∧ V = U ∧ Z = ws)) 0 0 (gA X) := by
  refine Met.g (by decide) (Nat.le_of_ble_eq_true rfl) ?_
  intro p e s m below meth c ls hx hb hr hts hown hlocks hml hin hG hl
  have hl : lv_has ls 2 [(0, .ref ro), (1, .int (zI (i : Int)))] := hl
  have hVr : V rj = some (ar, aI (gT X 4) n (fun i => (f i).toInt32)) := hV
  refine lv_aload_n hx hb dX6_asInt_0 rfl (lv_at hl 0 rfl) ?_
  refine lv_iload_n hx hb dX6_asInt_1 rfl (lv_at hl 1 rfl) ?_
  refine g_cl (va_runU (C := "LineRemarks$Shorts") (As := [.int (zI (i : Int))]) (rest := []) ⟨hx, hb, hml, hown, hts⟩ (metX8_get_t hro hV hi9 hfx) (va_cwA 1 hts (lw_U q834 q683 q693 q694 q113 q695) rfl rfl rfl (hG.1.2.1.1 _ qn682) (by decide +kernel) ⟨Nat.le_of_ble_eq_true rfl, Nat.le_of_ble_eq_true rfl⟩) (g_preV hG (g_recv hG (hG.fz hro) (ci := 6) rfl)) rfl rfl hl.1 rfl (lv_room (Nat.le_of_ble_eq_true rfl)) dX6_asInt_2 ⟨Nat.le_of_ble_eq_true rfl, Nat.le_of_ble_eq_true rfl⟩) hG (fun r_1 F_2 V_3 ws_ H locs hp hG => ?_)
  obtain ⟨rfl, rfl, rfl, rfl⟩ := hp
  have hG : gW X F V (Z) s H locs := hG
  refine lv_l2i (v := (f i).toInt32) hx hb dX6_asInt_5 rfl ?_
  exact g_iret hx hb hr hlocks hG (⟨rfl, rfl, rfl, rfl⟩) ⟨Nat.le_of_ble_eq_true rfl, Nat.le_of_ble_eq_true rfl⟩ dX6_asInt_6

set_option maxHeartbeats 4000000 in
theorem metX9_sort {l : Launch} {X : gX} {F : gF} {V : gV} {Z : va_W} {ro ar n rj : Nat} {f : Nat → Int64} (hro : F.1 ro = some (oB 7 [.ref ar])) (hV : V rj = some (ar, rwE X 2 n f)) : Met l yX9_sort (ws_ yX9_sort cX9_sort 1 (some FieldType.int)) ({ frames := 0, cells := 0, slots := 0, locals := 0 }) (gP X F V (Z) [.ref ro]) (gQi X (fun u G U ws => u = zI (2 : Nat) ∧ F = G ∧ V = U ∧ Z = ws)) 0 0 (gA X) := by
  refine Met.g (by decide) (Nat.le_of_ble_eq_true rfl) ?_
  intro p e s m below meth c ls hx hb hr hts hown hlocks hml hin hG hl
  have hl : lv_has ls 1 [(0, .ref ro)] := hl
  have hVr : V rj = some (ar, aI (gT X 0) n (fun i => (f i).toInt32)) := hV
  refine lv_iconst (v := zI 2) hx hb dX9_sort_0 (by decide +kernel) ?_
  exact g_iret hx hb hr hlocks hG (⟨rfl, rfl, rfl, rfl⟩) ⟨Nat.le_of_ble_eq_true rfl, Nat.le_of_ble_eq_true rfl⟩ dX9_sort_1

set_option maxHeartbeats 4000000 in
theorem metX9_length {l : Launch} {X : gX} {F : gF} {V : gV} {Z : va_W} {ro ar n rj : Nat} {f : Nat → Int64} (hro : F.1 ro = some (oB 7 [.ref ar])) (hV : V rj = some (ar, rwE X 2 n f)) : Met l yX9_length (ws_ yX9_length cX9_length 1 (some FieldType.int)) ({ frames := 0, cells := 0, slots := 0, locals := 0 }) (gP X F V (Z) [.ref ro]) (gQi X (fun u G U ws => u = zI (n : Int) ∧ F = G ∧ V = U ∧ Z = ws)) 0 0 (gA X) := by
  refine Met.g (by decide) (Nat.le_of_ble_eq_true rfl) ?_
  intro p e s m below meth c ls hx hb hr hts hown hlocks hml hin hG hl
  have hl : lv_has ls 1 [(0, .ref ro)] := hl
  have hVr : V rj = some (ar, aI (gT X 0) n (fun i => (f i).toInt32)) := hV
  refine lv_aload_n hx hb dX9_length_0 rfl (lv_at hl 0 rfl) ?_
  refine g_get (ci := 7) hx hb hts in_X9 hown hG (hG.fz hro) rfl 0 (Nat.le_of_ble_eq_true rfl) (hts _ q574) (fun _ h9 => h9) rfl dX9_length_1 ?_
  refine g_alen hx hb hG 0 rfl (hG.vo hVr) dX9_length_4 ?_
  exact g_iret hx hb hr hlocks hG (⟨rfl, rfl, rfl, rfl⟩) ⟨Nat.le_of_ble_eq_true rfl, Nat.le_of_ble_eq_true rfl⟩ dX9_length_5

set_option maxHeartbeats 4000000 in
theorem metX9_held {l : Launch} {X : gX} {F : gF} {V : gV} {Z : va_W} {ro ar n rj : Nat} {f : Nat → Int64} (hro : F.1 ro = some (oB 7 [.ref ar])) (hV : V rj = some (ar, rwE X 2 n f)) : Met l yX9_held (ws_ yX9_held cX9_held 1 (some (FieldType.object "java/lang/Object"))) ({ frames := 0, cells := 0, slots := 0, locals := 0 }) (gP X F V (Z) [.ref ro]) (gQr X (fun u G U ws => ar = u ∧ F = G ∧ V = U ∧ Z = ws)) 0 0 (gA X) := by
  refine Met.g (by decide) (Nat.le_of_ble_eq_true rfl) ?_
  intro p e s m below meth c ls hx hb hr hts hown hlocks hml hin hG hl
  have hl : lv_has ls 1 [(0, .ref ro)] := hl
  have hVr : V rj = some (ar, aI (gT X 0) n (fun i => (f i).toInt32)) := hV
  refine lv_aload_n hx hb dX9_held_0 rfl (lv_at hl 0 rfl) ?_
  refine g_get (ci := 7) hx hb hts in_X9 hown hG (hG.fz hro) rfl 0 (Nat.le_of_ble_eq_true rfl) (hts _ q574) (fun _ h9 => h9) rfl dX9_held_1 ?_
  exact g_rret hx hb hr (Or.inl ⟨_, rfl⟩) hlocks hG (⟨rfl, rfl, rfl, rfl⟩) ⟨Nat.le_of_ble_eq_true rfl, Nat.le_of_ble_eq_true rfl⟩ dX9_held_4

set_option maxHeartbeats 4000000 in
theorem metX9_get_t {l : Launch} {X : gX} {F : gF} {V : gV} {Z : va_W} {ro ar n rj : Nat} {f : Nat → Int64} (hro : F.1 ro = some (oB 7 [.ref ar])) (hV : V rj = some (ar, rwE X 2 n f)) {i : Nat} (hi9 : i < n ∧ n ≤ 160) (hfx : aTrunc 2 (f i) = f i) : Met l yX9_get (ws_ yX9_get cX9_get 2 (some FieldType.long)) ({ frames := 0, cells := 0, slots := 0, locals := 0 }) (gP X F V (Z) [.ref ro, .int (zI (i : Int))]) (gQl X (fun u G U ws => u = f i ∧ F = G ∧ V = U ∧ Z = ws)) 0 0 (gA X) := by
  refine Met.g (by decide) (Nat.le_of_ble_eq_true rfl) ?_
  intro p e s m below meth c ls hx hb hr hts hown hlocks hml hin hG hl
  have hl : lv_has ls 2 [(0, .ref ro), (1, .int (zI (i : Int)))] := hl
  have hVr : V rj = some (ar, aI (gT X 0) n (fun i => (f i).toInt32)) := hV
  refine lv_aload_n hx hb dX9_get_0 rfl (lv_at hl 0 rfl) ?_
  refine g_get (ci := 7) hx hb hts in_X9 hown hG (hG.fz hro) rfl 0 (Nat.le_of_ble_eq_true rfl) (hts _ q574) (fun _ h9 => h9) rfl dX9_get_1 ?_
  refine lv_iload_n hx hb dX9_get_4 rfl (lv_at hl 1 rfl) ?_
  refine g_iald hx hb hG (hG.vo hVr) i ⟨rfl, by omega, by omega⟩ (v := ((f i).toInt32)) rfl dX9_get_5 ?_
  refine lv_i2l (v := ((f i).toInt32).toInt64) hx hb dX9_get_6 rfl ?_
  exact g_lret hx hb hr hlocks hG (⟨tr_2 hfx, rfl, rfl, rfl⟩) ⟨Nat.le_of_ble_eq_true rfl, Nat.le_of_ble_eq_true rfl⟩ dX9_get_7

set_option maxHeartbeats 4000000 in
theorem metX9_get_f {l : Launch} {X : gX} {F : gF} {V : gV} {Z : va_W} {ro ar n rj : Nat} {f : Nat → Int64} (hro : F.1 ro = some (oB 7 [.ref ar])) (hV : V rj = some (ar, rwE X 2 n f)) {i : Int} (hst : l.stackTraces = false) (hi9 : (i < 0 ∨ (n : Int) ≤ i) ∧ -2147483648 ≤ i ∧ i < 2147483648 ∧ n ≤ 160) : vx_Met l yX9_get (ws_ yX9_get cX9_get 2 (some FieldType.long)) ({ frames := 8, cells := 3, slots := 222, locals := 10248 }) (gP X F V (Z) [.ref ro, .int (zI i)]) (gQl X (fun _ _ _ _ => False)) (gXc X (fun E q G U ws => E = "java/lang/ArrayIndexOutOfBoundsException" ∧ F = G ∧ V = U ∧ Z = ws)) 3 222 (gA X) := by
  refine vx_Met.g (by decide) (Nat.le_of_ble_eq_true rfl) ?_
  intro p e s m below meth c ls hx hb hr hts hown hlocks hml hin hnt hG hl
  have hl : lv_has ls 2 [(0, .ref ro), (1, .int (zI i))] := hl
  have hVr : V rj = some (ar, aI (gT X 0) n (fun i => (f i).toInt32)) := hV
  refine lv_aload_n hx hb dX9_get_0 rfl (lv_at hl 0 rfl) ?_
  refine g_get (ci := 7) hx hb hts in_X9 hown hG (hG.fz hro) rfl 0 (Nat.le_of_ble_eq_true rfl) (hts _ q574) (fun _ h9 => h9) rfl dX9_get_1 ?_
  refine lv_iload_n hx hb dX9_get_4 rfl (lv_at hl 1 rfl) ?_
  refine vx_ialdZ hx hb hG.K (gone (hG.vo hVr)) 0 0 rfl rfl (vpout (by omega)) dX9_get_5 (g_aioobe hx hst hts hG (hml.trans hl.1.symm).symm (by omega) (Nat.le_of_ble_eq_true rfl) (Nat.le_of_ble_eq_true rfl) ⟨Nat.le_of_ble_eq_true rfl, Nat.le_of_ble_eq_true rfl⟩ hlocks (fun H q9 ce9 hG hce => ?_))
  exact g_out hown hlocks (fun z9 hz9 => (hnt z9 hz9).elim) hG hce (⟨rfl, rfl, rfl, rfl⟩) ⟨Nat.le_of_ble_eq_true rfl, Nat.le_of_ble_eq_true rfl⟩

set_option maxHeartbeats 4000000 in
theorem metX9_put_t {l : Launch} {X : gX} {F : gF} {V : gV} {Z : va_W} {ro ar n rj : Nat} {f : Nat → Int64} (hro : F.1 ro = some (oB 7 [.ref ar])) (hV : V rj = some (ar, rwE X 2 n f)) {i : Nat} {v : Int64} (hi9 : i < n ∧ n ≤ 160) : Met l yX9_put (ws_ yX9_put cX9_put 4 none) ({ frames := 0, cells := 0, slots := 0, locals := 0 }) (gP X F V (Z) [.ref ro, .int (zI (i : Int)), .long v]) (gQv X (fun G U ws => F = G ∧ va_up V rj (some (ar, rwE X 2 n (va_up f i (aTrunc 2 v)))) = U ∧ Z = ws)) 0 0 (gA X) := by
  refine Met.g (by decide) (Nat.le_of_ble_eq_true rfl) ?_
  intro p e s m below meth c ls hx hb hr hts hown hlocks hml hin hG hl
  have hl : lv_has ls 4 [(0, .ref ro), (1, .int (zI (i : Int))), (2, .long v)] := hl
  have hVr : V rj = some (ar, aI (gT X 0) n (fun i => (f i).toInt32)) := hV
  refine lv_aload_n hx hb dX9_put_0 rfl (lv_at hl 0 rfl) ?_
  refine g_get (ci := 7) hx hb hts in_X9 hown hG (hG.fz hro) rfl 0 (Nat.le_of_ble_eq_true rfl) (hts _ q574) (fun _ h9 => h9) rfl dX9_put_1 ?_
  refine lv_iload_n hx hb dX9_put_4 rfl (lv_at hl 1 rfl) ?_
  refine lv_lload_n hx hb dX9_put_5 rfl (lv_at hl 2 rfl) ?_
  refine lv_l2i (v := v.toInt32) hx hb dX9_put_6 rfl ?_
  refine g_iastV hx hb hG hVr i ⟨rfl, by omega, by omega⟩ dX9_put_7 (fun H locs (hG : gW X F (va_up V rj (some (ar, aI (gT X 0) n (upd (fun i => (f i).toInt32) i v.toInt32)))) (Z) s H locs) => ?_)
  have hVr : (va_up V rj (some (ar, aI (gT X 0) n (upd (fun i => (f i).toInt32) i v.toInt32)))) rj = some (ar, aI (gT X 0) n (upd (fun i => (f i).toInt32) i v.toInt32)) := vus
  exact g_vret hx hb hr hlocks hG (⟨rfl, by rw [show aI (gT X 0) n (upd (fun i => (f i).toInt32) i v.toInt32) = rwE X 2 n (va_up f i (aTrunc 2 v)) from congrArg (fun z => (.inl (gT X 0, n, .inl z) : va_E)) (upd_tr (Int32.toInt32_toInt64 _))], rfl⟩) ⟨Nat.le_of_ble_eq_true rfl, Nat.le_of_ble_eq_true rfl⟩ dX9_put_8

set_option maxHeartbeats 4000000 in
theorem metX9_put_f {l : Launch} {X : gX} {F : gF} {V : gV} {Z : va_W} {ro ar n rj : Nat} {f : Nat → Int64} (hro : F.1 ro = some (oB 7 [.ref ar])) (hV : V rj = some (ar, rwE X 2 n f)) {v : Int64} {i : Int} (hst : l.stackTraces = false) (hi9 : (i < 0 ∨ (n : Int) ≤ i) ∧ -2147483648 ≤ i ∧ i < 2147483648 ∧ n ≤ 160) : vx_Met l yX9_put (ws_ yX9_put cX9_put 4 none) ({ frames := 8, cells := 3, slots := 222, locals := 10248 }) (gP X F V (Z) [.ref ro, .int (zI i), .long v]) (gQv X (fun _ _ _ => False)) (gXc X (fun E q G U ws => E = "java/lang/ArrayIndexOutOfBoundsException" ∧ F = G ∧ V = U ∧ Z = ws)) 3 222 (gA X) := by
  refine vx_Met.g (by decide) (Nat.le_of_ble_eq_true rfl) ?_
  intro p e s m below meth c ls hx hb hr hts hown hlocks hml hin hnt hG hl
  have hl : lv_has ls 4 [(0, .ref ro), (1, .int (zI i)), (2, .long v)] := hl
  have hVr : V rj = some (ar, aI (gT X 0) n (fun i => (f i).toInt32)) := hV
  refine lv_aload_n hx hb dX9_put_0 rfl (lv_at hl 0 rfl) ?_
  refine g_get (ci := 7) hx hb hts in_X9 hown hG (hG.fz hro) rfl 0 (Nat.le_of_ble_eq_true rfl) (hts _ q574) (fun _ h9 => h9) rfl dX9_put_1 ?_
  refine lv_iload_n hx hb dX9_put_4 rfl (lv_at hl 1 rfl) ?_
  refine lv_lload_n hx hb dX9_put_5 rfl (lv_at hl 2 rfl) ?_
  refine lv_l2i (v := v.toInt32) hx hb dX9_put_6 rfl ?_
  refine vx_iastZ hx hb hG.K (gone (hG.vo hVr)) 0 0 rfl rfl (vpout (by omega)) dX9_put_7 (g_aioobe hx hst hts hG (hml.trans hl.1.symm).symm (by omega) (Nat.le_of_ble_eq_true rfl) (Nat.le_of_ble_eq_true rfl) ⟨Nat.le_of_ble_eq_true rfl, Nat.le_of_ble_eq_true rfl⟩ hlocks (fun H q9 ce9 hG hce => ?_))
  exact g_out hown hlocks (fun z9 hz9 => (hnt z9 hz9).elim) hG hce (⟨rfl, rfl, rfl, rfl⟩) ⟨Nat.le_of_ble_eq_true rfl, Nat.le_of_ble_eq_true rfl⟩

set_option maxHeartbeats 4000000 in
theorem metX9_init {l : Launch} {X : gX} {F : gF} {V : gV} {Z : va_W} {ro n : Nat} (hn9 : n ≤ 160) : Met l yX9_init (ws_ yX9_init cX9_init 2 none) ({ frames := 2, cells := 1, slots := 160, locals := 40 }) (gP X F V ((ro, oB 7 [.null]) :: Z) [.ref ro, .int (zI (n : Int))]) (gQv X (fun G U ws => F = G ∧ V = U ∧ ∃ ar : Nat, ((ro, oB 7 [.ref ar]) :: (ar, rwE X 2 n (fun _ => 0)) :: Z) = ws)) 1 160 (gA X) := by
  refine Met.g (by decide) (Nat.le_of_ble_eq_true rfl) ?_
  intro p e s m below meth c ls hx hb hr hts hown hlocks hml hin hG hl
  have hl : lv_has ls 2 [(0, .ref ro), (1, .int (zI (n : Int)))] := hl
  refine lv_aload_n hx hb dX9_init_0 rfl (lv_at hl 0 rfl) ?_
  refine g_cv (va_runI (As := []) (rest := []) ⟨hx, hb, hml, hown, hts⟩ (metX6_init) (cwI 0 hts (lw_meth q551) rfl rfl rfl (hts _ q111) (hts _ q573) (hts _ q550) rfl (by decide +kernel) ⟨Nat.le_of_ble_eq_true rfl, Nat.le_of_ble_eq_true rfl⟩) (g_preS hG) rfl rfl hl.1 rfl (lv_room (Nat.le_of_ble_eq_true rfl)) dX9_init_1 ⟨by show _ ≤ 1; omega, by show _ ≤ 160; omega⟩) hG (fun F_2 V_3 ws_ H locs hp hG => ?_)
  obtain ⟨rfl, rfl, rfl⟩ := hp
  have hG : gW X F V ((ro, oB 7 [.null]) :: Z) s H locs := hG
  refine lv_aload_n hx hb dX9_init_4 rfl (lv_at hl 0 rfl) ?_
  refine lv_iload_n hx hb dX9_init_5 rfl (lv_at hl 1 rfl) ?_
  refine g_newa (atype := .int) hx hb (hts _ q189) 0 rfl rfl (fun h => h) hG (N := n) (a0 := (n, .inl (fun _ => 0))) (fun _ => rfl) ⟨rfl, by omega⟩ (by decide) ⟨by show _ ≤ 1; omega, by show _ ≤ 160; omega⟩ dX9_init_6 (fun ar H (hG : gW X F V ((ar, aI (gT X 0) n (fun _ => 0)) :: (ro, oB 7 [.null]) :: Z) s H _) => ?_)
  refine g_putF (ci := 7) hx hb hts in_X9 tyX9 tyX9_ok nmX9 hown hin hG 1 rfl rfl 0 (Nat.le_of_ble_eq_true rfl) (hts _ q574) (fun _ h9 => h9) rfl rfl (tyX9_ok 0 (Nat.le_of_ble_eq_true rfl)) rfl rfl (Nat.le_of_ble_eq_true rfl) dX9_init_8 (fun H locs (hG : gW X F V ((ar, aI (gT X 0) n (fun _ => 0)) :: (ro, oB 7 [.ref ar]) :: Z) s H locs) => ?_)
  have hG : gW X F V ((ro, oB 7 [.ref ar]) :: (ar, aI (gT X 0) n (fun _ => 0)) :: Z) s _ _ := hG.pull 1 rfl rfl
  exact g_vret hx hb hr hlocks hG (⟨rfl, rfl, ar, rfl⟩) ⟨by show _ ≤ 1; omega, by show _ ≤ 160; omega⟩ dX9_init_11

set_option maxHeartbeats 4000000 in
theorem metX6_asInt_2 {l : Launch} {X : gX} {F : gF} {V : gV} {Z : va_W} {ro ar n rj : Nat} {f : Nat → Int64} (hro : F.1 ro = some (oB 7 [.ref ar])) (hV : V rj = some (ar, rwE X 2 n f)) {i : Nat} (hi9 : i < n ∧ n ≤ 160) (hfx : aTrunc 2 (f i) = f i) : Met l yX6_asInt (ws_ yX6_asInt cX6_asInt 2 (some FieldType.int)) ({ frames := 1, cells := 0, slots := 0, locals := 21 }) (gP X F V (Z) [.ref ro, .int (zI (i : Int))]) (gQi X (fun u G U ws => u = (f i).toInt32 ∧ F = G ∧ V = U ∧ Z = ws)) 0 0 (gA X) := by
  refine Met.g (by decide) (Nat.le_of_ble_eq_true rfl) ?_
  intro p e s m below meth c ls hx hb hr hts hown hlocks hml hin hG hl
  have hl : lv_has ls 2 [(0, .ref ro), (1, .int (zI (i : Int)))] := hl
  have hVr : V rj = some (ar, aI (gT X 0) n (fun i => (f i).toInt32)) := hV
  refine lv_aload_n hx hb dX6_asInt_0 rfl (lv_at hl 0 rfl) ?_
  refine lv_iload_n hx hb dX6_asInt_1 rfl (lv_at hl 1 rfl) ?_
  refine g_cl (va_runU (C := "LineRemarks$Ints") (As := [.int (zI (i : Int))]) (rest := []) ⟨hx, hb, hml, hown, hts⟩ (metX9_get_t hro hV hi9 hfx) (va_cwA 1 hts (lw_U q834 q683 q687 q688 q114 q689) rfl rfl rfl (hG.1.2.1.1 _ qn682) (by decide +kernel) ⟨Nat.le_of_ble_eq_true rfl, Nat.le_of_ble_eq_true rfl⟩) (g_preV hG (g_recv hG (hG.fz hro) (ci := 7) rfl)) rfl rfl hl.1 rfl (lv_room (Nat.le_of_ble_eq_true rfl)) dX6_asInt_2 ⟨Nat.le_of_ble_eq_true rfl, Nat.le_of_ble_eq_true rfl⟩) hG (fun r_1 F_2 V_3 ws_ H locs hp hG => ?_)
  obtain ⟨rfl, rfl, rfl, rfl⟩ := hp
  have hG : gW X F V (Z) s H locs := hG
  refine lv_l2i (v := (f i).toInt32) hx hb dX6_asInt_5 rfl ?_
  exact g_iret hx hb hr hlocks hG (⟨rfl, rfl, rfl, rfl⟩) ⟨Nat.le_of_ble_eq_true rfl, Nat.le_of_ble_eq_true rfl⟩ dX6_asInt_6

set_option maxHeartbeats 4000000 in
theorem metX10_sort {l : Launch} {X : gX} {F : gF} {V : gV} {Z : va_W} {ro ar n rj : Nat} {f : Nat → Int64} (hro : F.1 ro = some (oB 8 [.ref ar])) (hV : V rj = some (ar, rwE X 3 n f)) : Met l yX10_sort (ws_ yX10_sort cX10_sort 1 (some FieldType.int)) ({ frames := 0, cells := 0, slots := 0, locals := 0 }) (gP X F V (Z) [.ref ro]) (gQi X (fun u G U ws => u = zI (3 : Nat) ∧ F = G ∧ V = U ∧ Z = ws)) 0 0 (gA X) := by
  refine Met.g (by decide) (Nat.le_of_ble_eq_true rfl) ?_
  intro p e s m below meth c ls hx hb hr hts hown hlocks hml hin hG hl
  have hl : lv_has ls 1 [(0, .ref ro)] := hl
  have hVr : V rj = some (ar, aL (gT X 1) n f) := hV
  refine lv_iconst (v := zI 3) hx hb dX10_sort_0 (by decide +kernel) ?_
  exact g_iret hx hb hr hlocks hG (⟨rfl, rfl, rfl, rfl⟩) ⟨Nat.le_of_ble_eq_true rfl, Nat.le_of_ble_eq_true rfl⟩ dX10_sort_1

set_option maxHeartbeats 4000000 in
theorem metX10_length {l : Launch} {X : gX} {F : gF} {V : gV} {Z : va_W} {ro ar n rj : Nat} {f : Nat → Int64} (hro : F.1 ro = some (oB 8 [.ref ar])) (hV : V rj = some (ar, rwE X 3 n f)) : Met l yX10_length (ws_ yX10_length cX10_length 1 (some FieldType.int)) ({ frames := 0, cells := 0, slots := 0, locals := 0 }) (gP X F V (Z) [.ref ro]) (gQi X (fun u G U ws => u = zI (n : Int) ∧ F = G ∧ V = U ∧ Z = ws)) 0 0 (gA X) := by
  refine Met.g (by decide) (Nat.le_of_ble_eq_true rfl) ?_
  intro p e s m below meth c ls hx hb hr hts hown hlocks hml hin hG hl
  have hl : lv_has ls 1 [(0, .ref ro)] := hl
  have hVr : V rj = some (ar, aL (gT X 1) n f) := hV
  refine lv_aload_n hx hb dX10_length_0 rfl (lv_at hl 0 rfl) ?_
  refine g_get (ci := 8) hx hb hts in_X10 hown hG (hG.fz hro) rfl 0 (Nat.le_of_ble_eq_true rfl) (hts _ q584) (fun _ h9 => h9) rfl dX10_length_1 ?_
  refine g_alen hx hb hG 1 rfl (hG.vo hVr) dX10_length_4 ?_
  exact g_iret hx hb hr hlocks hG (⟨rfl, rfl, rfl, rfl⟩) ⟨Nat.le_of_ble_eq_true rfl, Nat.le_of_ble_eq_true rfl⟩ dX10_length_5

set_option maxHeartbeats 4000000 in
theorem metX10_held {l : Launch} {X : gX} {F : gF} {V : gV} {Z : va_W} {ro ar n rj : Nat} {f : Nat → Int64} (hro : F.1 ro = some (oB 8 [.ref ar])) (hV : V rj = some (ar, rwE X 3 n f)) : Met l yX10_held (ws_ yX10_held cX10_held 1 (some (FieldType.object "java/lang/Object"))) ({ frames := 0, cells := 0, slots := 0, locals := 0 }) (gP X F V (Z) [.ref ro]) (gQr X (fun u G U ws => ar = u ∧ F = G ∧ V = U ∧ Z = ws)) 0 0 (gA X) := by
  refine Met.g (by decide) (Nat.le_of_ble_eq_true rfl) ?_
  intro p e s m below meth c ls hx hb hr hts hown hlocks hml hin hG hl
  have hl : lv_has ls 1 [(0, .ref ro)] := hl
  have hVr : V rj = some (ar, aL (gT X 1) n f) := hV
  refine lv_aload_n hx hb dX10_held_0 rfl (lv_at hl 0 rfl) ?_
  refine g_get (ci := 8) hx hb hts in_X10 hown hG (hG.fz hro) rfl 0 (Nat.le_of_ble_eq_true rfl) (hts _ q584) (fun _ h9 => h9) rfl dX10_held_1 ?_
  exact g_rret hx hb hr (Or.inl ⟨_, rfl⟩) hlocks hG (⟨rfl, rfl, rfl, rfl⟩) ⟨Nat.le_of_ble_eq_true rfl, Nat.le_of_ble_eq_true rfl⟩ dX10_held_4

set_option maxHeartbeats 4000000 in
theorem metX10_get_t {l : Launch} {X : gX} {F : gF} {V : gV} {Z : va_W} {ro ar n rj : Nat} {f : Nat → Int64} (hro : F.1 ro = some (oB 8 [.ref ar])) (hV : V rj = some (ar, rwE X 3 n f)) {i : Nat} (hi9 : i < n ∧ n ≤ 160) (hfx : aTrunc 3 (f i) = f i) : Met l yX10_get (ws_ yX10_get cX10_get 2 (some FieldType.long)) ({ frames := 0, cells := 0, slots := 0, locals := 0 }) (gP X F V (Z) [.ref ro, .int (zI (i : Int))]) (gQl X (fun u G U ws => u = f i ∧ F = G ∧ V = U ∧ Z = ws)) 0 0 (gA X) := by
  refine Met.g (by decide) (Nat.le_of_ble_eq_true rfl) ?_
  intro p e s m below meth c ls hx hb hr hts hown hlocks hml hin hG hl
  have hl : lv_has ls 2 [(0, .ref ro), (1, .int (zI (i : Int)))] := hl
  have hVr : V rj = some (ar, aL (gT X 1) n f) := hV
  refine lv_aload_n hx hb dX10_get_0 rfl (lv_at hl 0 rfl) ?_
  refine g_get (ci := 8) hx hb hts in_X10 hown hG (hG.fz hro) rfl 0 (Nat.le_of_ble_eq_true rfl) (hts _ q584) (fun _ h9 => h9) rfl dX10_get_1 ?_
  refine lv_iload_n hx hb dX10_get_4 rfl (lv_at hl 1 rfl) ?_
  refine g_lald hx hb hG (hG.vo hVr) i ⟨rfl, by omega, by omega⟩ (v := (f i)) rfl dX10_get_5 ?_
  exact g_lret hx hb hr hlocks hG (⟨rfl, rfl, rfl, rfl⟩) ⟨Nat.le_of_ble_eq_true rfl, Nat.le_of_ble_eq_true rfl⟩ dX10_get_6

set_option maxHeartbeats 4000000 in
theorem metX10_get_f {l : Launch} {X : gX} {F : gF} {V : gV} {Z : va_W} {ro ar n rj : Nat} {f : Nat → Int64} (hro : F.1 ro = some (oB 8 [.ref ar])) (hV : V rj = some (ar, rwE X 3 n f)) {i : Int} (hst : l.stackTraces = false) (hi9 : (i < 0 ∨ (n : Int) ≤ i) ∧ -2147483648 ≤ i ∧ i < 2147483648 ∧ n ≤ 160) : vx_Met l yX10_get (ws_ yX10_get cX10_get 2 (some FieldType.long)) ({ frames := 8, cells := 3, slots := 222, locals := 10248 }) (gP X F V (Z) [.ref ro, .int (zI i)]) (gQl X (fun _ _ _ _ => False)) (gXc X (fun E q G U ws => E = "java/lang/ArrayIndexOutOfBoundsException" ∧ F = G ∧ V = U ∧ Z = ws)) 3 222 (gA X) := by
  refine vx_Met.g (by decide) (Nat.le_of_ble_eq_true rfl) ?_
  intro p e s m below meth c ls hx hb hr hts hown hlocks hml hin hnt hG hl
  have hl : lv_has ls 2 [(0, .ref ro), (1, .int (zI i))] := hl
  have hVr : V rj = some (ar, aL (gT X 1) n f) := hV
  refine lv_aload_n hx hb dX10_get_0 rfl (lv_at hl 0 rfl) ?_
  refine g_get (ci := 8) hx hb hts in_X10 hown hG (hG.fz hro) rfl 0 (Nat.le_of_ble_eq_true rfl) (hts _ q584) (fun _ h9 => h9) rfl dX10_get_1 ?_
  refine lv_iload_n hx hb dX10_get_4 rfl (lv_at hl 1 rfl) ?_
  refine vx_laldZ hx hb hG.K (gone (hG.vo hVr)) 0 1 rfl rfl (vpout (by omega)) dX10_get_5 (g_aioobe hx hst hts hG (hml.trans hl.1.symm).symm (by omega) (Nat.le_of_ble_eq_true rfl) (Nat.le_of_ble_eq_true rfl) ⟨Nat.le_of_ble_eq_true rfl, Nat.le_of_ble_eq_true rfl⟩ hlocks (fun H q9 ce9 hG hce => ?_))
  exact g_out hown hlocks (fun z9 hz9 => (hnt z9 hz9).elim) hG hce (⟨rfl, rfl, rfl, rfl⟩) ⟨Nat.le_of_ble_eq_true rfl, Nat.le_of_ble_eq_true rfl⟩

set_option maxHeartbeats 4000000 in
theorem metX10_put_t {l : Launch} {X : gX} {F : gF} {V : gV} {Z : va_W} {ro ar n rj : Nat} {f : Nat → Int64} (hro : F.1 ro = some (oB 8 [.ref ar])) (hV : V rj = some (ar, rwE X 3 n f)) {i : Nat} {v : Int64} (hi9 : i < n ∧ n ≤ 160) : Met l yX10_put (ws_ yX10_put cX10_put 4 none) ({ frames := 0, cells := 0, slots := 0, locals := 0 }) (gP X F V (Z) [.ref ro, .int (zI (i : Int)), .long v]) (gQv X (fun G U ws => F = G ∧ va_up V rj (some (ar, rwE X 3 n (va_up f i (aTrunc 3 v)))) = U ∧ Z = ws)) 0 0 (gA X) := by
  refine Met.g (by decide) (Nat.le_of_ble_eq_true rfl) ?_
  intro p e s m below meth c ls hx hb hr hts hown hlocks hml hin hG hl
  have hl : lv_has ls 4 [(0, .ref ro), (1, .int (zI (i : Int))), (2, .long v)] := hl
  have hVr : V rj = some (ar, aL (gT X 1) n f) := hV
  refine lv_aload_n hx hb dX10_put_0 rfl (lv_at hl 0 rfl) ?_
  refine g_get (ci := 8) hx hb hts in_X10 hown hG (hG.fz hro) rfl 0 (Nat.le_of_ble_eq_true rfl) (hts _ q584) (fun _ h9 => h9) rfl dX10_put_1 ?_
  refine lv_iload_n hx hb dX10_put_4 rfl (lv_at hl 1 rfl) ?_
  refine lv_lload_n hx hb dX10_put_5 rfl (lv_at hl 2 rfl) ?_
  refine g_lastV hx hb hG hVr i ⟨rfl, by omega, by omega⟩ dX10_put_6 (fun H locs (hG : gW X F (va_up V rj (some (ar, aL (gT X 1) n (vp_updL f i v)))) (Z) s H locs) => ?_)
  have hVr : (va_up V rj (some (ar, aL (gT X 1) n (vp_updL f i v)))) rj = some (ar, aL (gT X 1) n (vp_updL f i v)) := vus
  exact g_vret hx hb hr hlocks hG (⟨rfl, by rw [show aL (gT X 1) n (vp_updL f i v) = rwE X 3 n (va_up f i (aTrunc 3 v)) from congrArg (fun z => (.inl (gT X 1, n, .inr (.inl z)) : va_E)) updL_tr], rfl⟩) ⟨Nat.le_of_ble_eq_true rfl, Nat.le_of_ble_eq_true rfl⟩ dX10_put_7

set_option maxHeartbeats 4000000 in
theorem metX10_put_f {l : Launch} {X : gX} {F : gF} {V : gV} {Z : va_W} {ro ar n rj : Nat} {f : Nat → Int64} (hro : F.1 ro = some (oB 8 [.ref ar])) (hV : V rj = some (ar, rwE X 3 n f)) {v : Int64} {i : Int} (hst : l.stackTraces = false) (hi9 : (i < 0 ∨ (n : Int) ≤ i) ∧ -2147483648 ≤ i ∧ i < 2147483648 ∧ n ≤ 160) : vx_Met l yX10_put (ws_ yX10_put cX10_put 4 none) ({ frames := 8, cells := 3, slots := 222, locals := 10248 }) (gP X F V (Z) [.ref ro, .int (zI i), .long v]) (gQv X (fun _ _ _ => False)) (gXc X (fun E q G U ws => E = "java/lang/ArrayIndexOutOfBoundsException" ∧ F = G ∧ V = U ∧ Z = ws)) 3 222 (gA X) := by
  refine vx_Met.g (by decide) (Nat.le_of_ble_eq_true rfl) ?_
  intro p e s m below meth c ls hx hb hr hts hown hlocks hml hin hnt hG hl
  have hl : lv_has ls 4 [(0, .ref ro), (1, .int (zI i)), (2, .long v)] := hl
  have hVr : V rj = some (ar, aL (gT X 1) n f) := hV
  refine lv_aload_n hx hb dX10_put_0 rfl (lv_at hl 0 rfl) ?_
  refine g_get (ci := 8) hx hb hts in_X10 hown hG (hG.fz hro) rfl 0 (Nat.le_of_ble_eq_true rfl) (hts _ q584) (fun _ h9 => h9) rfl dX10_put_1 ?_
  refine lv_iload_n hx hb dX10_put_4 rfl (lv_at hl 1 rfl) ?_
  refine lv_lload_n hx hb dX10_put_5 rfl (lv_at hl 2 rfl) ?_
  refine vx_lastZ hx hb hG.K (gone (hG.vo hVr)) 0 1 rfl rfl (vpout (by omega)) dX10_put_6 (g_aioobe hx hst hts hG (hml.trans hl.1.symm).symm (by omega) (Nat.le_of_ble_eq_true rfl) (Nat.le_of_ble_eq_true rfl) ⟨Nat.le_of_ble_eq_true rfl, Nat.le_of_ble_eq_true rfl⟩ hlocks (fun H q9 ce9 hG hce => ?_))
  exact g_out hown hlocks (fun z9 hz9 => (hnt z9 hz9).elim) hG hce (⟨rfl, rfl, rfl, rfl⟩) ⟨Nat.le_of_ble_eq_true rfl, Nat.le_of_ble_eq_true rfl⟩

set_option maxHeartbeats 4000000 in
theorem metX10_init {l : Launch} {X : gX} {F : gF} {V : gV} {Z : va_W} {ro n : Nat} (hn9 : n ≤ 160) : Met l yX10_init (ws_ yX10_init cX10_init 2 none) ({ frames := 2, cells := 1, slots := 160, locals := 40 }) (gP X F V ((ro, oB 8 [.null]) :: Z) [.ref ro, .int (zI (n : Int))]) (gQv X (fun G U ws => F = G ∧ V = U ∧ ∃ ar : Nat, ((ro, oB 8 [.ref ar]) :: (ar, rwE X 3 n (fun _ => 0)) :: Z) = ws)) 1 160 (gA X) := by
  refine Met.g (by decide) (Nat.le_of_ble_eq_true rfl) ?_
  intro p e s m below meth c ls hx hb hr hts hown hlocks hml hin hG hl
  have hl : lv_has ls 2 [(0, .ref ro), (1, .int (zI (n : Int)))] := hl
  refine lv_aload_n hx hb dX10_init_0 rfl (lv_at hl 0 rfl) ?_
  refine g_cv (va_runI (As := []) (rest := []) ⟨hx, hb, hml, hown, hts⟩ (metX6_init) (cwI 0 hts (lw_meth q551) rfl rfl rfl (hts _ q111) (hts _ q583) (hts _ q550) rfl (by decide +kernel) ⟨Nat.le_of_ble_eq_true rfl, Nat.le_of_ble_eq_true rfl⟩) (g_preS hG) rfl rfl hl.1 rfl (lv_room (Nat.le_of_ble_eq_true rfl)) dX10_init_1 ⟨by show _ ≤ 1; omega, by show _ ≤ 160; omega⟩) hG (fun F_2 V_3 ws_ H locs hp hG => ?_)
  obtain ⟨rfl, rfl, rfl⟩ := hp
  have hG : gW X F V ((ro, oB 8 [.null]) :: Z) s H locs := hG
  refine lv_aload_n hx hb dX10_init_4 rfl (lv_at hl 0 rfl) ?_
  refine lv_iload_n hx hb dX10_init_5 rfl (lv_at hl 1 rfl) ?_
  refine g_newa (atype := .long) hx hb (hts _ q588) 1 rfl rfl (fun h => h) hG (N := n) (a0 := (n, .inr (.inl (fun _ => 0)))) (fun _ => rfl) ⟨rfl, by omega⟩ (by decide) ⟨by show _ ≤ 1; omega, by show _ ≤ 160; omega⟩ dX10_init_6 (fun ar H (hG : gW X F V ((ar, aL (gT X 1) n (fun _ => 0)) :: (ro, oB 8 [.null]) :: Z) s H _) => ?_)
  refine g_putF (ci := 8) hx hb hts in_X10 tyX10 tyX10_ok nmX10 hown hin hG 1 rfl rfl 0 (Nat.le_of_ble_eq_true rfl) (hts _ q584) (fun _ h9 => h9) rfl rfl (tyX10_ok 0 (Nat.le_of_ble_eq_true rfl)) rfl rfl (Nat.le_of_ble_eq_true rfl) dX10_init_8 (fun H locs (hG : gW X F V ((ar, aL (gT X 1) n (fun _ => 0)) :: (ro, oB 8 [.ref ar]) :: Z) s H locs) => ?_)
  have hG : gW X F V ((ro, oB 8 [.ref ar]) :: (ar, aL (gT X 1) n (fun _ => 0)) :: Z) s _ _ := hG.pull 1 rfl rfl
  exact g_vret hx hb hr hlocks hG (⟨rfl, rfl, ar, rfl⟩) ⟨by show _ ≤ 1; omega, by show _ ≤ 160; omega⟩ dX10_init_11

set_option maxHeartbeats 4000000 in
theorem metX6_asInt_3 {l : Launch} {X : gX} {F : gF} {V : gV} {Z : va_W} {ro ar n rj : Nat} {f : Nat → Int64} (hro : F.1 ro = some (oB 8 [.ref ar])) (hV : V rj = some (ar, rwE X 3 n f)) {i : Nat} (hi9 : i < n ∧ n ≤ 160) (hfx : aTrunc 3 (f i) = f i) : Met l yX6_asInt (ws_ yX6_asInt cX6_asInt 2 (some FieldType.int)) ({ frames := 1, cells := 0, slots := 0, locals := 21 }) (gP X F V (Z) [.ref ro, .int (zI (i : Int))]) (gQi X (fun u G U ws => u = (f i).toInt32 ∧ F = G ∧ V = U ∧ Z = ws)) 0 0 (gA X) := by
  refine Met.g (by decide) (Nat.le_of_ble_eq_true rfl) ?_
  intro p e s m below meth c ls hx hb hr hts hown hlocks hml hin hG hl
  have hl : lv_has ls 2 [(0, .ref ro), (1, .int (zI (i : Int)))] := hl
  have hVr : V rj = some (ar, aL (gT X 1) n f) := hV
  refine lv_aload_n hx hb dX6_asInt_0 rfl (lv_at hl 0 rfl) ?_
  refine lv_iload_n hx hb dX6_asInt_1 rfl (lv_at hl 1 rfl) ?_
  refine g_cl (va_runU (C := "LineRemarks$Longs") (As := [.int (zI (i : Int))]) (rest := []) ⟨hx, hb, hml, hown, hts⟩ (metX10_get_t hro hV hi9 hfx) (va_cwA 1 hts (lw_U q834 q683 q690 q691 q115 q692) rfl rfl rfl (hG.1.2.1.1 _ qn682) (by decide +kernel) ⟨Nat.le_of_ble_eq_true rfl, Nat.le_of_ble_eq_true rfl⟩) (g_preV hG (g_recv hG (hG.fz hro) (ci := 8) rfl)) rfl rfl hl.1 rfl (lv_room (Nat.le_of_ble_eq_true rfl)) dX6_asInt_2 ⟨Nat.le_of_ble_eq_true rfl, Nat.le_of_ble_eq_true rfl⟩) hG (fun r_1 F_2 V_3 ws_ H locs hp hG => ?_)
  obtain ⟨rfl, rfl, rfl, rfl⟩ := hp
  have hG : gW X F V (Z) s H locs := hG
  refine lv_l2i (v := (f i).toInt32) hx hb dX6_asInt_5 rfl ?_
  exact g_iret hx hb hr hlocks hG (⟨rfl, rfl, rfl, rfl⟩) ⟨Nat.le_of_ble_eq_true rfl, Nat.le_of_ble_eq_true rfl⟩ dX6_asInt_6
section GRW
variable {p : Program} {l : Launch} {e : Env} {R : Room} {s : State} {m : MethodId} {args : Array Value} {below : List Frame} {meth : Method} {c : Code} {H : Heap} {locs : List Loc} {cells slots : Nat} {Q : State → Prop}
variable {cc : ByteArray} {pc : Nat} {ls : Array Slot} {rest : List Value} {X : gX} {F : gF} {V : gV} {ws : va_W}
theorem run_row_sort {so ro ar n rj : Nat} {f : Nat → Int64} (hso : so ≤ 3) (hro : F.1 ro = some (oB (5 + so) [.ref ar])) (hV : V rj = some (ar, rwE X so n f))  {own : String} {index nL : Nat} (S : CallFix p m c cc nL s args lw_all own) (hq : Cond.methodLink own index ⟨"LineRemarks$Row", "sort", "()I"⟩ ∈ lw_all) (hG : gW X F V ws s H locs) (hR : 1 ≤ R.frames ∧ 20 ≤ R.locals) (hsz : ls.size = nL) (hW : 2 * (F0 m pc ls (.ref ro :: rest)).monitorRoom + (rest.map fun v => v.category).sum ≤ 8) (d : decode cc pc = .ok (.invokevirtual index, 3)) (hf : cells + 0 ≤ R.cells ∧ slots + 0 ≤ R.slots) :
    va_Run p l e R s m args below meth c H locs cells slots 0 0 (F0 m pc ls (.ref ro :: rest)) rest (gQi X (fun u G U ws9 => u = zI (so : Nat) ∧ F = G ∧ V = U ∧ ws = ws9) (Value.ref ro :: []).toArray) (gA X) := by
  have hts : ∀ w ∈ lw_all, w.before args s = true := by obtain ⟨_, _, _, _, h⟩ := S; exact h
  obtain rfl | rfl | rfl | rfl : so = 0 ∨ so = 1 ∨ so = 2 ∨ so = 3 := by omega
  · exact va_runU (C := "LineRemarks$Bytes") S (metX7_sort hro hV ) (va_cwA 0 hts (lw_U hq q646 q647 q648 q112 q649) rfl rfl rfl (hG.1.2.1.1 _ qn645) (by decide +kernel) ⟨Nat.le_trans (Nat.le_of_ble_eq_true rfl) hR.1, Nat.le_trans (Nat.le_of_ble_eq_true rfl) hR.2⟩) (g_preV hG (g_recv hG (hG.fz hro) (ci := 5) rfl)) rfl rfl hsz rfl hW d hf
  · exact va_runU (C := "LineRemarks$Shorts") S (metX8_sort hro hV ) (va_cwA 0 hts (lw_U hq q646 q656 q657 q113 q658) rfl rfl rfl (hG.1.2.1.1 _ qn645) (by decide +kernel) ⟨Nat.le_trans (Nat.le_of_ble_eq_true rfl) hR.1, Nat.le_trans (Nat.le_of_ble_eq_true rfl) hR.2⟩) (g_preV hG (g_recv hG (hG.fz hro) (ci := 6) rfl)) rfl rfl hsz rfl hW d hf
  · exact va_runU (C := "LineRemarks$Ints") S (metX9_sort hro hV ) (va_cwA 0 hts (lw_U hq q646 q650 q651 q114 q652) rfl rfl rfl (hG.1.2.1.1 _ qn645) (by decide +kernel) ⟨Nat.le_trans (Nat.le_of_ble_eq_true rfl) hR.1, Nat.le_trans (Nat.le_of_ble_eq_true rfl) hR.2⟩) (g_preV hG (g_recv hG (hG.fz hro) (ci := 7) rfl)) rfl rfl hsz rfl hW d hf
  · exact va_runU (C := "LineRemarks$Longs") S (metX10_sort hro hV ) (va_cwA 0 hts (lw_U hq q646 q653 q654 q115 q655) rfl rfl rfl (hG.1.2.1.1 _ qn645) (by decide +kernel) ⟨Nat.le_trans (Nat.le_of_ble_eq_true rfl) hR.1, Nat.le_trans (Nat.le_of_ble_eq_true rfl) hR.2⟩) (g_preV hG (g_recv hG (hG.fz hro) (ci := 8) rfl)) rfl rfl hsz rfl hW d hf
theorem run_row_length {so ro ar n rj : Nat} {f : Nat → Int64} (hso : so ≤ 3) (hro : F.1 ro = some (oB (5 + so) [.ref ar])) (hV : V rj = some (ar, rwE X so n f))  {own : String} {index nL : Nat} (S : CallFix p m c cc nL s args lw_all own) (hq : Cond.methodLink own index ⟨"LineRemarks$Row", "length", "()I"⟩ ∈ lw_all) (hG : gW X F V ws s H locs) (hR : 1 ≤ R.frames ∧ 20 ≤ R.locals) (hsz : ls.size = nL) (hW : 2 * (F0 m pc ls (.ref ro :: rest)).monitorRoom + (rest.map fun v => v.category).sum ≤ 8) (d : decode cc pc = .ok (.invokevirtual index, 3)) (hf : cells + 0 ≤ R.cells ∧ slots + 0 ≤ R.slots) :
    va_Run p l e R s m args below meth c H locs cells slots 0 0 (F0 m pc ls (.ref ro :: rest)) rest (gQi X (fun u G U ws9 => u = zI (n : Int) ∧ F = G ∧ V = U ∧ ws = ws9) (Value.ref ro :: []).toArray) (gA X) := by
  have hts : ∀ w ∈ lw_all, w.before args s = true := by obtain ⟨_, _, _, _, h⟩ := S; exact h
  obtain rfl | rfl | rfl | rfl : so = 0 ∨ so = 1 ∨ so = 2 ∨ so = 3 := by omega
  · exact va_runU (C := "LineRemarks$Bytes") S (metX7_length hro hV ) (va_cwA 0 hts (lw_U hq q805 q806 q807 q112 q808) rfl rfl rfl (hG.1.2.1.1 _ qn804) (by decide +kernel) ⟨Nat.le_trans (Nat.le_of_ble_eq_true rfl) hR.1, Nat.le_trans (Nat.le_of_ble_eq_true rfl) hR.2⟩) (g_preV hG (g_recv hG (hG.fz hro) (ci := 5) rfl)) rfl rfl hsz rfl hW d hf
  · exact va_runU (C := "LineRemarks$Shorts") S (metX8_length hro hV ) (va_cwA 0 hts (lw_U hq q805 q815 q816 q113 q817) rfl rfl rfl (hG.1.2.1.1 _ qn804) (by decide +kernel) ⟨Nat.le_trans (Nat.le_of_ble_eq_true rfl) hR.1, Nat.le_trans (Nat.le_of_ble_eq_true rfl) hR.2⟩) (g_preV hG (g_recv hG (hG.fz hro) (ci := 6) rfl)) rfl rfl hsz rfl hW d hf
  · exact va_runU (C := "LineRemarks$Ints") S (metX9_length hro hV ) (va_cwA 0 hts (lw_U hq q805 q809 q810 q114 q811) rfl rfl rfl (hG.1.2.1.1 _ qn804) (by decide +kernel) ⟨Nat.le_trans (Nat.le_of_ble_eq_true rfl) hR.1, Nat.le_trans (Nat.le_of_ble_eq_true rfl) hR.2⟩) (g_preV hG (g_recv hG (hG.fz hro) (ci := 7) rfl)) rfl rfl hsz rfl hW d hf
  · exact va_runU (C := "LineRemarks$Longs") S (metX10_length hro hV ) (va_cwA 0 hts (lw_U hq q805 q812 q813 q115 q814) rfl rfl rfl (hG.1.2.1.1 _ qn804) (by decide +kernel) ⟨Nat.le_trans (Nat.le_of_ble_eq_true rfl) hR.1, Nat.le_trans (Nat.le_of_ble_eq_true rfl) hR.2⟩) (g_preV hG (g_recv hG (hG.fz hro) (ci := 8) rfl)) rfl rfl hsz rfl hW d hf
theorem run_row_held {so ro ar n rj : Nat} {f : Nat → Int64} (hso : so ≤ 3) (hro : F.1 ro = some (oB (5 + so) [.ref ar])) (hV : V rj = some (ar, rwE X so n f))  {own : String} {index nL : Nat} (S : CallFix p m c cc nL s args lw_all own) (hq : Cond.methodLink own index ⟨"LineRemarks$Row", "held", "()Ljava/lang/Object;"⟩ ∈ lw_all) (hG : gW X F V ws s H locs) (hR : 1 ≤ R.frames ∧ 20 ≤ R.locals) (hsz : ls.size = nL) (hW : 2 * (F0 m pc ls (.ref ro :: rest)).monitorRoom + (rest.map fun v => v.category).sum ≤ 8) (d : decode cc pc = .ok (.invokevirtual index, 3)) (hf : cells + 0 ≤ R.cells ∧ slots + 0 ≤ R.slots) :
    va_Run p l e R s m args below meth c H locs cells slots 0 0 (F0 m pc ls (.ref ro :: rest)) rest (gQr X (fun u G U ws9 => ar = u ∧ F = G ∧ V = U ∧ ws = ws9) (Value.ref ro :: []).toArray) (gA X) := by
  have hts : ∀ w ∈ lw_all, w.before args s = true := by obtain ⟨_, _, _, _, h⟩ := S; exact h
  obtain rfl | rfl | rfl | rfl : so = 0 ∨ so = 1 ∨ so = 2 ∨ so = 3 := by omega
  · exact va_runU (C := "LineRemarks$Bytes") S (metX7_held hro hV ) (va_cwA 0 hts (lw_U hq q661 q662 q663 q112 q664) rfl rfl rfl (hG.1.2.1.1 _ qn660) (by decide +kernel) ⟨Nat.le_trans (Nat.le_of_ble_eq_true rfl) hR.1, Nat.le_trans (Nat.le_of_ble_eq_true rfl) hR.2⟩) (g_preV hG (g_recv hG (hG.fz hro) (ci := 5) rfl)) rfl rfl hsz rfl hW d hf
  · exact va_runU (C := "LineRemarks$Shorts") S (metX8_held hro hV ) (va_cwA 0 hts (lw_U hq q661 q671 q672 q113 q673) rfl rfl rfl (hG.1.2.1.1 _ qn660) (by decide +kernel) ⟨Nat.le_trans (Nat.le_of_ble_eq_true rfl) hR.1, Nat.le_trans (Nat.le_of_ble_eq_true rfl) hR.2⟩) (g_preV hG (g_recv hG (hG.fz hro) (ci := 6) rfl)) rfl rfl hsz rfl hW d hf
  · exact va_runU (C := "LineRemarks$Ints") S (metX9_held hro hV ) (va_cwA 0 hts (lw_U hq q661 q665 q666 q114 q667) rfl rfl rfl (hG.1.2.1.1 _ qn660) (by decide +kernel) ⟨Nat.le_trans (Nat.le_of_ble_eq_true rfl) hR.1, Nat.le_trans (Nat.le_of_ble_eq_true rfl) hR.2⟩) (g_preV hG (g_recv hG (hG.fz hro) (ci := 7) rfl)) rfl rfl hsz rfl hW d hf
  · exact va_runU (C := "LineRemarks$Longs") S (metX10_held hro hV ) (va_cwA 0 hts (lw_U hq q661 q668 q669 q115 q670) rfl rfl rfl (hG.1.2.1.1 _ qn660) (by decide +kernel) ⟨Nat.le_trans (Nat.le_of_ble_eq_true rfl) hR.1, Nat.le_trans (Nat.le_of_ble_eq_true rfl) hR.2⟩) (g_preV hG (g_recv hG (hG.fz hro) (ci := 8) rfl)) rfl rfl hsz rfl hW d hf
theorem run_row_get_t {so ro ar n rj : Nat} {f : Nat → Int64} (hso : so ≤ 3) (hro : F.1 ro = some (oB (5 + so) [.ref ar])) (hV : V rj = some (ar, rwE X so n f)) {i : Nat} (hi9 : i < n ∧ n ≤ 160) (hfx : aTrunc so (f i) = f i) {own : String} {index nL : Nat} (S : CallFix p m c cc nL s args lw_all own) (hq : Cond.methodLink own index ⟨"LineRemarks$Row", "get", "(I)J"⟩ ∈ lw_all) (hG : gW X F V ws s H locs) (hR : 1 ≤ R.frames ∧ 21 ≤ R.locals) (hsz : ls.size = nL) (hW : 2 * (F0 m pc ls (.int (zI (i : Int)) :: .ref ro :: rest)).monitorRoom + (rest.map fun v => v.category).sum ≤ 8) (d : decode cc pc = .ok (.invokevirtual index, 3)) (hf : cells + 0 ≤ R.cells ∧ slots + 0 ≤ R.slots) :
    va_Run p l e R s m args below meth c H locs cells slots 0 0 (F0 m pc ls (.int (zI (i : Int)) :: .ref ro :: rest)) rest (gQl X (fun u G U ws9 => u = f i ∧ F = G ∧ V = U ∧ ws = ws9) (Value.ref ro :: [.int (zI (i : Int))]).toArray) (gA X) := by
  have hts : ∀ w ∈ lw_all, w.before args s = true := by obtain ⟨_, _, _, _, h⟩ := S; exact h
  obtain rfl | rfl | rfl | rfl : so = 0 ∨ so = 1 ∨ so = 2 ∨ so = 3 := by omega
  · exact va_runU (C := "LineRemarks$Bytes") S (metX7_get_t hro hV hi9 hfx) (va_cwA 1 hts (lw_U hq q683 q684 q685 q112 q686) rfl rfl rfl (hG.1.2.1.1 _ qn682) (by decide +kernel) ⟨Nat.le_trans (Nat.le_of_ble_eq_true rfl) hR.1, Nat.le_trans (Nat.le_of_ble_eq_true rfl) hR.2⟩) (g_preV hG (g_recv hG (hG.fz hro) (ci := 5) rfl)) rfl rfl hsz rfl hW d hf
  · exact va_runU (C := "LineRemarks$Shorts") S (metX8_get_t hro hV hi9 hfx) (va_cwA 1 hts (lw_U hq q683 q693 q694 q113 q695) rfl rfl rfl (hG.1.2.1.1 _ qn682) (by decide +kernel) ⟨Nat.le_trans (Nat.le_of_ble_eq_true rfl) hR.1, Nat.le_trans (Nat.le_of_ble_eq_true rfl) hR.2⟩) (g_preV hG (g_recv hG (hG.fz hro) (ci := 6) rfl)) rfl rfl hsz rfl hW d hf
  · exact va_runU (C := "LineRemarks$Ints") S (metX9_get_t hro hV hi9 hfx) (va_cwA 1 hts (lw_U hq q683 q687 q688 q114 q689) rfl rfl rfl (hG.1.2.1.1 _ qn682) (by decide +kernel) ⟨Nat.le_trans (Nat.le_of_ble_eq_true rfl) hR.1, Nat.le_trans (Nat.le_of_ble_eq_true rfl) hR.2⟩) (g_preV hG (g_recv hG (hG.fz hro) (ci := 7) rfl)) rfl rfl hsz rfl hW d hf
  · exact va_runU (C := "LineRemarks$Longs") S (metX10_get_t hro hV hi9 hfx) (va_cwA 1 hts (lw_U hq q683 q690 q691 q115 q692) rfl rfl rfl (hG.1.2.1.1 _ qn682) (by decide +kernel) ⟨Nat.le_trans (Nat.le_of_ble_eq_true rfl) hR.1, Nat.le_trans (Nat.le_of_ble_eq_true rfl) hR.2⟩) (g_preV hG (g_recv hG (hG.fz hro) (ci := 8) rfl)) rfl rfl hsz rfl hW d hf
theorem run_row_asInt {so ro ar n rj : Nat} {f : Nat → Int64} (hso : so ≤ 3) (hro : F.1 ro = some (oB (5 + so) [.ref ar])) (hV : V rj = some (ar, rwE X so n f)) {i : Nat} (hi9 : i < n ∧ n ≤ 160) (hfx : aTrunc so (f i) = f i) {own : String} {index nL : Nat} (S : CallFix p m c cc nL s args lw_all own) (hq : Cond.methodLink own index ⟨"LineRemarks$Row", "asInt", "(I)I"⟩ ∈ lw_all) (hG : gW X F V ws s H locs) (hR : 2 ≤ R.frames ∧ 42 ≤ R.locals) (hsz : ls.size = nL) (hW : 2 * (F0 m pc ls (.int (zI (i : Int)) :: .ref ro :: rest)).monitorRoom + (rest.map fun v => v.category).sum ≤ 8) (d : decode cc pc = .ok (.invokevirtual index, 3)) (hf : cells + 0 ≤ R.cells ∧ slots + 0 ≤ R.slots) :
    va_Run p l e R s m args below meth c H locs cells slots 0 0 (F0 m pc ls (.int (zI (i : Int)) :: .ref ro :: rest)) rest (gQi X (fun u G U ws9 => u = (f i).toInt32 ∧ F = G ∧ V = U ∧ ws = ws9) (Value.ref ro :: [.int (zI (i : Int))]).toArray) (gA X) := by
  have hts : ∀ w ∈ lw_all, w.before args s = true := by obtain ⟨_, _, _, _, h⟩ := S; exact h
  obtain rfl | rfl | rfl | rfl : so = 0 ∨ so = 1 ∨ so = 2 ∨ so = 3 := by omega
  · exact va_runU (C := "LineRemarks$Bytes") S (metX6_asInt_0 hro hV hi9 hfx) (va_cwU 1 hts (lw_U hq q828 q829 q827 q111 q833) rfl rfl rfl rfl (by decide +kernel) ⟨Nat.le_trans (Nat.le_of_ble_eq_true rfl) hR.1, Nat.le_trans (Nat.le_of_ble_eq_true rfl) hR.2⟩) (g_preV hG (g_recv hG (hG.fz hro) (ci := 5) rfl)) rfl rfl hsz rfl hW d hf
  · exact va_runU (C := "LineRemarks$Shorts") S (metX6_asInt_1 hro hV hi9 hfx) (va_cwU 1 hts (lw_U hq q828 q832 q827 q111 q833) rfl rfl rfl rfl (by decide +kernel) ⟨Nat.le_trans (Nat.le_of_ble_eq_true rfl) hR.1, Nat.le_trans (Nat.le_of_ble_eq_true rfl) hR.2⟩) (g_preV hG (g_recv hG (hG.fz hro) (ci := 6) rfl)) rfl rfl hsz rfl hW d hf
  · exact va_runU (C := "LineRemarks$Ints") S (metX6_asInt_2 hro hV hi9 hfx) (va_cwU 1 hts (lw_U hq q828 q830 q827 q111 q833) rfl rfl rfl rfl (by decide +kernel) ⟨Nat.le_trans (Nat.le_of_ble_eq_true rfl) hR.1, Nat.le_trans (Nat.le_of_ble_eq_true rfl) hR.2⟩) (g_preV hG (g_recv hG (hG.fz hro) (ci := 7) rfl)) rfl rfl hsz rfl hW d hf
  · exact va_runU (C := "LineRemarks$Longs") S (metX6_asInt_3 hro hV hi9 hfx) (va_cwU 1 hts (lw_U hq q828 q831 q827 q111 q833) rfl rfl rfl rfl (by decide +kernel) ⟨Nat.le_trans (Nat.le_of_ble_eq_true rfl) hR.1, Nat.le_trans (Nat.le_of_ble_eq_true rfl) hR.2⟩) (g_preV hG (g_recv hG (hG.fz hro) (ci := 8) rfl)) rfl rfl hsz rfl hW d hf
theorem run_row_put_t {so ro ar n rj : Nat} {f : Nat → Int64} (hso : so ≤ 3) (hro : F.1 ro = some (oB (5 + so) [.ref ar])) (hV : V rj = some (ar, rwE X so n f)) {i : Nat} {v : Int64} (hi9 : i < n ∧ n ≤ 160) {own : String} {index nL : Nat} (S : CallFix p m c cc nL s args lw_all own) (hq : Cond.methodLink own index ⟨"LineRemarks$Row", "put", "(IJ)V"⟩ ∈ lw_all) (hG : gW X F V ws s H locs) (hR : 1 ≤ R.frames ∧ 23 ≤ R.locals) (hsz : ls.size = nL) (hW : 2 * (F0 m pc ls (.long v :: .int (zI (i : Int)) :: .ref ro :: rest)).monitorRoom + (rest.map fun v => v.category).sum ≤ 8) (d : decode cc pc = .ok (.invokevirtual index, 3)) (hf : cells + 0 ≤ R.cells ∧ slots + 0 ≤ R.slots) :
    va_Run p l e R s m args below meth c H locs cells slots 0 0 (F0 m pc ls (.long v :: .int (zI (i : Int)) :: .ref ro :: rest)) rest (gQv X (fun G U ws9 => F = G ∧ va_up V rj (some (ar, rwE X so n (va_up f i (aTrunc so v)))) = U ∧ ws = ws9) (Value.ref ro :: [.int (zI (i : Int)), .long v]).toArray) (gA X) := by
  have hts : ∀ w ∈ lw_all, w.before args s = true := by obtain ⟨_, _, _, _, h⟩ := S; exact h
  obtain rfl | rfl | rfl | rfl : so = 0 ∨ so = 1 ∨ so = 2 ∨ so = 3 := by omega
  · exact va_runU (C := "LineRemarks$Bytes") S (metX7_put_t hro hV hi9) (va_cwA 2 hts (lw_U hq q621 q622 q623 q112 q624) rfl rfl rfl (hG.1.2.1.1 _ qn620) (by decide +kernel) ⟨Nat.le_trans (Nat.le_of_ble_eq_true rfl) hR.1, Nat.le_trans (Nat.le_of_ble_eq_true rfl) hR.2⟩) (g_preV hG (g_recv hG (hG.fz hro) (ci := 5) rfl)) rfl rfl hsz rfl hW d hf
  · exact va_runU (C := "LineRemarks$Shorts") S (metX8_put_t hro hV hi9) (va_cwA 2 hts (lw_U hq q621 q631 q632 q113 q633) rfl rfl rfl (hG.1.2.1.1 _ qn620) (by decide +kernel) ⟨Nat.le_trans (Nat.le_of_ble_eq_true rfl) hR.1, Nat.le_trans (Nat.le_of_ble_eq_true rfl) hR.2⟩) (g_preV hG (g_recv hG (hG.fz hro) (ci := 6) rfl)) rfl rfl hsz rfl hW d hf
  · exact va_runU (C := "LineRemarks$Ints") S (metX9_put_t hro hV hi9) (va_cwA 2 hts (lw_U hq q621 q625 q626 q114 q627) rfl rfl rfl (hG.1.2.1.1 _ qn620) (by decide +kernel) ⟨Nat.le_trans (Nat.le_of_ble_eq_true rfl) hR.1, Nat.le_trans (Nat.le_of_ble_eq_true rfl) hR.2⟩) (g_preV hG (g_recv hG (hG.fz hro) (ci := 7) rfl)) rfl rfl hsz rfl hW d hf
  · exact va_runU (C := "LineRemarks$Longs") S (metX10_put_t hro hV hi9) (va_cwA 2 hts (lw_U hq q621 q628 q629 q115 q630) rfl rfl rfl (hG.1.2.1.1 _ qn620) (by decide +kernel) ⟨Nat.le_trans (Nat.le_of_ble_eq_true rfl) hR.1, Nat.le_trans (Nat.le_of_ble_eq_true rfl) hR.2⟩) (g_preV hG (g_recv hG (hG.fz hro) (ci := 8) rfl)) rfl rfl hsz rfl hW d hf
theorem run_row_get_f {so ro ar n rj : Nat} {f : Nat → Int64} (hso : so ≤ 3) (hro : F.1 ro = some (oB (5 + so) [.ref ar])) (hV : V rj = some (ar, rwE X so n f))  {i : Int} (hst : l.stackTraces = false) (hi9 : (i < 0 ∨ (n : Int) ≤ i) ∧ -2147483648 ≤ i ∧ i < 2147483648 ∧ n ≤ 160) {own : String} {index nL : Nat} (S : CallFix p m c cc nL s args lw_all own) (hq : Cond.methodLink own index ⟨"LineRemarks$Row", "get", "(I)J"⟩ ∈ lw_all) (hG : gW X F V ws s H locs) (hR : 9 ≤ R.frames ∧ 10269 ≤ R.locals) (hsz : ls.size = nL) (hW : 2 * (F0 m pc ls (.int (zI i) :: .ref ro :: rest)).monitorRoom + (rest.map fun v => v.category).sum ≤ 8) (d : decode cc pc = .ok (.invokevirtual index, 3)) (hf : cells + 3 ≤ R.cells ∧ slots + 222 ≤ R.slots) :
    vx_Run p l e R s m args below meth c H locs cells slots 3 222 (F0 m pc ls (.int (zI i) :: .ref ro :: rest)) rest (gQl X (fun _ _ _ _ => False) (Value.ref ro :: [.int (zI i)]).toArray) (gXc X (fun E q G U ws9 => E = "java/lang/ArrayIndexOutOfBoundsException" ∧ F = G ∧ V = U ∧ ws = ws9)) (gA X) := by
  have hts : ∀ w ∈ lw_all, w.before args s = true := by obtain ⟨_, _, _, _, h⟩ := S; exact h
  obtain rfl | rfl | rfl | rfl : so = 0 ∨ so = 1 ∨ so = 2 ∨ so = 3 := by omega
  · exact vx_runU (C := "LineRemarks$Bytes") S (metX7_get_f hro hV hst hi9) (va_cwA 1 hts (lw_U hq q683 q684 q685 q112 q686) rfl rfl rfl (hG.1.2.1.1 _ qn682) (by decide +kernel) ⟨Nat.le_trans (Nat.le_of_ble_eq_true rfl) hR.1, Nat.le_trans (Nat.le_of_ble_eq_true rfl) hR.2⟩) (g_preV hG (g_recv hG (hG.fz hro) (ci := 5) rfl)) rfl rfl hsz rfl hW d hf
  · exact vx_runU (C := "LineRemarks$Shorts") S (metX8_get_f hro hV hst hi9) (va_cwA 1 hts (lw_U hq q683 q693 q694 q113 q695) rfl rfl rfl (hG.1.2.1.1 _ qn682) (by decide +kernel) ⟨Nat.le_trans (Nat.le_of_ble_eq_true rfl) hR.1, Nat.le_trans (Nat.le_of_ble_eq_true rfl) hR.2⟩) (g_preV hG (g_recv hG (hG.fz hro) (ci := 6) rfl)) rfl rfl hsz rfl hW d hf
  · exact vx_runU (C := "LineRemarks$Ints") S (metX9_get_f hro hV hst hi9) (va_cwA 1 hts (lw_U hq q683 q687 q688 q114 q689) rfl rfl rfl (hG.1.2.1.1 _ qn682) (by decide +kernel) ⟨Nat.le_trans (Nat.le_of_ble_eq_true rfl) hR.1, Nat.le_trans (Nat.le_of_ble_eq_true rfl) hR.2⟩) (g_preV hG (g_recv hG (hG.fz hro) (ci := 7) rfl)) rfl rfl hsz rfl hW d hf
  · exact vx_runU (C := "LineRemarks$Longs") S (metX10_get_f hro hV hst hi9) (va_cwA 1 hts (lw_U hq q683 q690 q691 q115 q692) rfl rfl rfl (hG.1.2.1.1 _ qn682) (by decide +kernel) ⟨Nat.le_trans (Nat.le_of_ble_eq_true rfl) hR.1, Nat.le_trans (Nat.le_of_ble_eq_true rfl) hR.2⟩) (g_preV hG (g_recv hG (hG.fz hro) (ci := 8) rfl)) rfl rfl hsz rfl hW d hf
theorem run_row_put_f {so ro ar n rj : Nat} {f : Nat → Int64} (hso : so ≤ 3) (hro : F.1 ro = some (oB (5 + so) [.ref ar])) (hV : V rj = some (ar, rwE X so n f)) {v : Int64} {i : Int} (hst : l.stackTraces = false) (hi9 : (i < 0 ∨ (n : Int) ≤ i) ∧ -2147483648 ≤ i ∧ i < 2147483648 ∧ n ≤ 160) {own : String} {index nL : Nat} (S : CallFix p m c cc nL s args lw_all own) (hq : Cond.methodLink own index ⟨"LineRemarks$Row", "put", "(IJ)V"⟩ ∈ lw_all) (hG : gW X F V ws s H locs) (hR : 9 ≤ R.frames ∧ 10271 ≤ R.locals) (hsz : ls.size = nL) (hW : 2 * (F0 m pc ls (.long v :: .int (zI i) :: .ref ro :: rest)).monitorRoom + (rest.map fun v => v.category).sum ≤ 8) (d : decode cc pc = .ok (.invokevirtual index, 3)) (hf : cells + 3 ≤ R.cells ∧ slots + 222 ≤ R.slots) :
    vx_Run p l e R s m args below meth c H locs cells slots 3 222 (F0 m pc ls (.long v :: .int (zI i) :: .ref ro :: rest)) rest (gQv X (fun _ _ _ => False) (Value.ref ro :: [.int (zI i), .long v]).toArray) (gXc X (fun E q G U ws9 => E = "java/lang/ArrayIndexOutOfBoundsException" ∧ F = G ∧ V = U ∧ ws = ws9)) (gA X) := by
  have hts : ∀ w ∈ lw_all, w.before args s = true := by obtain ⟨_, _, _, _, h⟩ := S; exact h
  obtain rfl | rfl | rfl | rfl : so = 0 ∨ so = 1 ∨ so = 2 ∨ so = 3 := by omega
  · exact vx_runU (C := "LineRemarks$Bytes") S (metX7_put_f hro hV hst hi9) (va_cwA 2 hts (lw_U hq q621 q622 q623 q112 q624) rfl rfl rfl (hG.1.2.1.1 _ qn620) (by decide +kernel) ⟨Nat.le_trans (Nat.le_of_ble_eq_true rfl) hR.1, Nat.le_trans (Nat.le_of_ble_eq_true rfl) hR.2⟩) (g_preV hG (g_recv hG (hG.fz hro) (ci := 5) rfl)) rfl rfl hsz rfl hW d hf
  · exact vx_runU (C := "LineRemarks$Shorts") S (metX8_put_f hro hV hst hi9) (va_cwA 2 hts (lw_U hq q621 q631 q632 q113 q633) rfl rfl rfl (hG.1.2.1.1 _ qn620) (by decide +kernel) ⟨Nat.le_trans (Nat.le_of_ble_eq_true rfl) hR.1, Nat.le_trans (Nat.le_of_ble_eq_true rfl) hR.2⟩) (g_preV hG (g_recv hG (hG.fz hro) (ci := 6) rfl)) rfl rfl hsz rfl hW d hf
  · exact vx_runU (C := "LineRemarks$Ints") S (metX9_put_f hro hV hst hi9) (va_cwA 2 hts (lw_U hq q621 q625 q626 q114 q627) rfl rfl rfl (hG.1.2.1.1 _ qn620) (by decide +kernel) ⟨Nat.le_trans (Nat.le_of_ble_eq_true rfl) hR.1, Nat.le_trans (Nat.le_of_ble_eq_true rfl) hR.2⟩) (g_preV hG (g_recv hG (hG.fz hro) (ci := 7) rfl)) rfl rfl hsz rfl hW d hf
  · exact vx_runU (C := "LineRemarks$Longs") S (metX10_put_f hro hV hst hi9) (va_cwA 2 hts (lw_U hq q621 q628 q629 q115 q630) rfl rfl rfl (hG.1.2.1.1 _ qn620) (by decide +kernel) ⟨Nat.le_trans (Nat.le_of_ble_eq_true rfl) hR.1, Nat.le_trans (Nat.le_of_ble_eq_true rfl) hR.2⟩) (g_preV hG (g_recv hG (hG.fz hro) (ci := 8) rfl)) rfl rfl hsz rfl hW d hf
end GRW

