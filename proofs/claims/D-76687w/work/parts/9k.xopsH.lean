set_option maxRecDepth 100000
theorem lw_FW {own : String} {idx : Nat} {C : String} {x y : MethodName} {b : ByteArray} {L : Nat} {r : Option FieldType} {hh : List (Nat × Nat × Nat × Nat)} (h1 : Cond.methodLink own idx x ∈ lw_all) (h3 : Cond.selects C x y ∈ lw_all) (h4 : Cond.instanceMethod y ∈ lw_all) (h5 : Cond.initialized y.cls ∈ lw_all) (h6 : Cond.codeWith y b L r hh ∈ lw_all) : GoodIn lw_all (va_wsF own idx C x y (wsW_ y b L r hh)) := by
  refine lw_app ?_ (lw_methW h6)
  intro w hw
  simp only [List.mem_cons, List.not_mem_nil, or_false] at hw
  rcases hw with e | e | e | e
  · rw [e]; exact h1
  · rw [e]; exact h3
  · rw [e]; exact h4
  · rw [e]; exact h5
section GXF
variable {p : Program} {l : Launch} {e : Env} {R : Room} {s : State} {m : MethodId} {args : Array Value} {below : List Frame} {meth : Method} {c : Code} {H : Heap} {locs : List Loc} {cells slots mc ms : Nat} {Q : State → Prop}
variable {pc : Nat} {ls : Array Slot} {rest st0 : List Value} {X : gX} {F : gF} {V : gV} {ws : va_W} {av : Array Value} {px : String → Nat → gF → gV → va_W → Prop}
theorem g_xFr {post : Nat → gF → gV → va_W → Prop} (hr : vx_Run5 p l e R s m args below meth c H locs cells slots mc ms (F0 m pc ls st0) rest (gQr X post av) (gXc X px) (gA X)) (hG : gW X F V ws s H locs)
    (kx : ∀ (E : String) (ce : Cell) (q : Nat) (F' : gF) (V' : gV) (ws' : va_W) (H1 : Heap) (locs1 : List Loc), px E q F' V' ws' → gW X F' V' ws' s H1 locs1 → exC E s H1 ce q → vx_W p l e R s m args below meth c H1 locs1 (cells + mc) (slots + ms) Q (F0 m pc ls rest) q)
    (kk : ∀ (r : Nat) (F' : gF) (V' : gV) (ws' : va_W) (H1 : Heap) (locs1 : List Loc), post r F' V' ws' → gW X F' V' ws' s H1 locs1 → W p l e R s m args below meth c H1 locs1 (cells + mc) (slots + ms) Q (F0 m (pc + 5) ls (.ref r :: rest))) : W p l e R s m args below meth c H locs cells slots Q (F0 m pc ls st0) := by
  intro T hT X9
  rcases hr T hT X9 with ⟨v, st₀, t, T', L, h0, X', hL, e1, e2, ⟨⟨u, r, hv, hp, hb⟩, hF⟩, st⟩ | ⟨q, st₀, t, T', L, E, ce, h0, X', hL, e1, e2, ⟨u, hp, hb, hF⟩, hce, hcv, hcl, st⟩
  · cases hv
    obtain ⟨k1, k2, k3⟩ := vx_keep h0 e1 hG.2.2 (fun _ _ h => h) (fun _ h => h) hL hF
    obtain ⟨t2, a1, b1⟩ := kk r u.1 u.2.1 u.2.2 T'.heap (locs ++ L) hb.1 (hG.back e1.symm hb.2 k3) T' rfl X'
    exact ⟨t2, st t2 a1, b1⟩
  · obtain ⟨k1, k2, k3⟩ := vx_keep h0 e1 hG.2.2 (fun _ _ h => h) (fun _ h => h) hL hF
    obtain ⟨t2, a1, b1⟩ := kx E ce q u.1 u.2.1 u.2.2 T'.heap (locs ++ L) hb.1 (hG.back e1.symm hb.2 k3) ⟨by rw [e1]; exact hce, hcv, hcl⟩ T' rfl X'
    exact ⟨t2, st.trans a1, b1⟩
end GXF
theorem ior_0 (x : Int32) : x ||| zI 0 = x := by show x ||| (0 : Int32) = x; exact Int32.or_zero
set_option maxHeartbeats 4000000 in
theorem metJ9_size {l : Launch} {X : gX} {F : gF} {V : gV} {Z : va_W} {kl ka : Nat} {g : Nat → Option Nat} (hk1 : F.1 kl = some (oB 33 [.ref ka, .int (zI 0)])) (hk2 : F.1 ka = some (aR (gT X 10) 7 g))  : Met l yJ9_size (ws_ yJ9_size cJ9_size 1 (some FieldType.int)) ({ frames := 0, cells := 0, slots := 0, locals := 0 }) (gP X F V (Z) [.ref kl]) (gQi X (fun u G U ws => u = zI 7 ∧ F = G ∧ V = U ∧ Z = ws)) 0 0 (gA X) := by
  refine Met.g (by decide) (Nat.le_of_ble_eq_true rfl) ?_
  intro p e s m below meth c ls hx hb hr hts hown hlocks hml hin hG hl
  have hl : lv_has ls 1 [(0, .ref kl)] := hl
  refine lv_aload_n hx hb dJ9_size_0 rfl (lv_at hl 0 rfl) ?_
  refine g_get (ci := 33) hx hb hts in_J9 hown hG (hG.fz hk1) rfl 0 (Nat.le_of_ble_eq_true rfl) (hts _ q316) (fun _ h9 => h9) rfl dJ9_size_1 ?_
  refine g_alen hx hb hG 10 rfl (hG.fz hk2) dJ9_size_4 ?_
  refine g_topz (y := 7) rfl ?_
  exact g_iret hx hb hr hlocks hG (⟨rfl, rfl, rfl, rfl⟩) ⟨Nat.le_of_ble_eq_true rfl, Nat.le_of_ble_eq_true rfl⟩ dJ9_size_5

set_option maxHeartbeats 4000000 in
theorem metJ9_get {l : Launch} {X : gX} {F : gF} {V : gV} {Z : va_W} {kl ka : Nat} {g : Nat → Option Nat} (hk1 : F.1 kl = some (oB 33 [.ref ka, .int (zI 0)])) (hk2 : F.1 ka = some (aR (gT X 10) 7 g)) {i : Nat} (hi : i < 7) (hgi : g i = some (ga X (i + 128))) : Met l yJ9_get (ws_ yJ9_get cJ9_get 2 (some (FieldType.object "java/lang/Object"))) ({ frames := 0, cells := 0, slots := 0, locals := 0 }) (gP X F V (Z) [.ref kl, .int (zI (i : Int))]) (gQr X (fun u G U ws => u = ga X (i + 128) ∧ F = G ∧ V = U ∧ Z = ws)) 0 0 (gA X) := by
  refine Met.g (by decide) (Nat.le_of_ble_eq_true rfl) ?_
  intro p e s m below meth c ls hx hb hr hts hown hlocks hml hin hG hl
  have hl : lv_has ls 2 [(0, .ref kl), (1, .int (zI (i : Int)))] := hl
  refine lv_aload_n hx hb dJ9_get_0 rfl (lv_at hl 0 rfl) ?_
  refine g_get (ci := 33) hx hb hts in_J9 hown hG (hG.fz hk1) rfl 0 (Nat.le_of_ble_eq_true rfl) (hts _ q316) (fun _ h9 => h9) rfl dJ9_get_1 ?_
  refine lv_iload_n hx hb dJ9_get_4 rfl (lv_at hl 1 rfl) ?_
  refine g_aald hx hb hG 10 rfl rfl (hG.fz hk2) i ⟨rfl, by omega, by omega⟩ (v := .ref (ga X (i + 128))) (congrArg va_rf hgi) dJ9_get_5 ?_
  exact g_rret hx hb hr (Or.inl ⟨_, rfl⟩) hlocks hG (⟨rfl, rfl, rfl, rfl⟩) ⟨Nat.le_of_ble_eq_true rfl, Nat.le_of_ble_eq_true rfl⟩ dJ9_get_6

set_option maxHeartbeats 4000000 in
theorem metJ31_init {l : Launch} {X : gX} {F : gF} {V : gV} {Z : va_W} {it kl : Nat} : Met l yJ31_init (ws_ yJ31_init cJ31_init 3 none) ({ frames := 1, cells := 0, slots := 0, locals := 20 }) (gP X F V ((it, oB 34 [.null, .int (zI 0), .int (zI 0), .int (zI 0)]) :: Z) [.ref it, .ref kl, .int (zI 7)]) (gQv X (fun G U ws => F = G ∧ V = U ∧ ((it, oB 34 [.ref kl, .int (zI 7), .int (zI 0), .int (zI 0)]) :: Z) = ws)) 0 0 (gA X) := by
  refine Met.g (by decide) (Nat.le_of_ble_eq_true rfl) ?_
  intro p e s m below meth c ls hx hb hr hts hown hlocks hml hin hG hl
  have hl : lv_has ls 3 [(0, .ref it), (1, .ref kl), (2, .int (zI 7))] := hl
  refine lv_aload_n hx hb dJ31_init_0 rfl (lv_at hl 0 rfl) ?_
  refine W.objInit hx hb hown (hts _ q1365) (hts _ q170) (hts _ q171) rfl (by rw [hml]; exact hl.1) rfl dJ31_init_1 (Nat.le_of_ble_eq_true rfl) (Nat.le_of_ble_eq_true rfl) ?_
  refine W.eq (g2 := F0 m 4 ls []) rfl ?_
  refine lv_aload_n hx hb dJ31_init_4 rfl (lv_at hl 0 rfl) ?_
  refine lv_aload_n hx hb dJ31_init_5 rfl (lv_at hl 1 rfl) ?_
  refine g_putF (ci := 34) hx hb hts in_J31 tyJ31 tyJ31_ok nmJ31 hown hin hG 0 rfl rfl 0 (Nat.le_of_ble_eq_true rfl) (hts _ q1366) (fun _ h9 => h9) rfl rfl (tyJ31_ok 0 (Nat.le_of_ble_eq_true rfl)) rfl rfl (Nat.le_of_ble_eq_true rfl) dJ31_init_6 (fun H locs (hG : gW X F V ((it, oB 34 [.ref kl, .int (zI 0), .int (zI 0), .int (zI 0)]) :: Z) s H locs) => ?_)
  refine lv_aload_n hx hb dJ31_init_9 rfl (lv_at hl 0 rfl) ?_
  refine lv_iload_n hx hb dJ31_init_10 rfl (lv_at hl 2 rfl) ?_
  refine g_putF (ci := 34) hx hb hts in_J31 tyJ31 tyJ31_ok nmJ31 hown hin hG 0 rfl rfl 1 (Nat.le_of_ble_eq_true rfl) (hts _ q1367) (fun _ h9 => h9) rfl rfl (tyJ31_ok 1 (Nat.le_of_ble_eq_true rfl)) rfl rfl (Nat.le_of_ble_eq_true rfl) dJ31_init_11 (fun H locs (hG : gW X F V ((it, oB 34 [.ref kl, .int (zI 7), .int (zI 0), .int (zI 0)]) :: Z) s H locs) => ?_)
  refine lv_aload_n hx hb dJ31_init_14 rfl (lv_at hl 0 rfl) ?_
  refine lv_iconst (v := zI 0) hx hb dJ31_init_15 (by decide +kernel) ?_
  refine g_put (ci := 34) hx hb hts in_J31 tyJ31 tyJ31_ok nmJ31 hown hG 0 rfl rfl 3 (Nat.le_of_ble_eq_true rfl) (hts _ q1369) (fun _ h9 => h9) rfl (tyJ31_ok 3 (Nat.le_of_ble_eq_true rfl)) rfl rfl (Nat.le_of_ble_eq_true rfl) dJ31_init_16 (fun H locs (hG : gW X F V ((it, oB 34 [.ref kl, .int (zI 7), .int (zI 0), .int (zI 0)]) :: Z) s H locs) => ?_)
  refine lv_aload_n hx hb dJ31_init_19 rfl (lv_at hl 0 rfl) ?_
  refine lv_iconst (v := zI 0) hx hb dJ31_init_20 (by decide +kernel) ?_
  refine g_putF (ci := 34) hx hb hts in_J31 tyJ31 tyJ31_ok nmJ31 hown hin hG 0 rfl rfl 2 (Nat.le_of_ble_eq_true rfl) (hts _ q1368) (fun _ h9 => h9) rfl rfl (tyJ31_ok 2 (Nat.le_of_ble_eq_true rfl)) rfl rfl (Nat.le_of_ble_eq_true rfl) dJ31_init_21 (fun H locs (hG : gW X F V ((it, oB 34 [.ref kl, .int (zI 7), .int (zI 0), .int (zI 0)]) :: Z) s H locs) => ?_)
  exact g_vret hx hb hr hlocks hG (⟨rfl, rfl, rfl⟩) ⟨Nat.le_of_ble_eq_true rfl, Nat.le_of_ble_eq_true rfl⟩ dJ31_init_24

set_option maxHeartbeats 4000000 in
theorem metJ7_iterator {l : Launch} {X : gX} {F : gF} {V : gV} {Z : va_W} {kl ka : Nat} {g : Nat → Option Nat} (hk1 : F.1 kl = some (oB 33 [.ref ka, .int (zI 0)])) (hk2 : F.1 ka = some (aR (gT X 10) 7 g))  : Met l yJ7_iterator (ws_ yJ7_iterator cJ7_iterator 1 (some (FieldType.object "java/util/Iterator"))) ({ frames := 2, cells := 1, slots := 4, locals := 42 }) (gP X F V (Z) [.ref kl]) (gQr X (fun it G U ws => F = G ∧ V = U ∧ ((it, oB 34 [.ref kl, .int (zI 7), .int (zI 0), .int (zI 0)]) :: Z) = ws)) 1 4 (gA X) := by
  refine Met.g (by decide) (Nat.le_of_ble_eq_true rfl) ?_
  intro p e s m below meth c ls hx hb hr hts hown hlocks hml hin hG hl
  have hl : lv_has ls 1 [(0, .ref kl)] := hl
  refine g_new (ci := 34) hx hb hts in_J31 tyJ31 tyJ31_ok hown (hts _ q1356) (hts _ q1357) (hts _ q134) hG rfl (fs := [.null, .int (zI 0), .int (zI 0), .int (zI 0)]) rfl ⟨Nat.le_of_ble_eq_true rfl, Nat.le_of_ble_eq_true rfl⟩ dJ7_iterator_0 (fun it H (hG : gW X F V ((it, oB 34 [.null, .int (zI 0), .int (zI 0), .int (zI 0)]) :: Z) s H _) => ?_)
  refine lv_dup hx hb dJ7_iterator_3 rfl ?_
  refine lv_aload_n hx hb dJ7_iterator_4 rfl (lv_at hl 0 rfl) ?_
  refine lv_aload_n hx hb dJ7_iterator_5 rfl (lv_at hl 0 rfl) ?_
  refine g_ci (va_runU (C := "java/util/ImmutableCollections$ListN") (As := []) (rest := [.ref kl, .ref it, .ref it]) ⟨hx, hb, hml, hown, hts⟩ (metJ9_size hk1 hk2) (va_cwA 0 hts (lw_U q1358 q1359 q1361 q1282 q99 q1284) rfl rfl rfl (hG.1.2.1.1 _ qn924) (by decide +kernel) ⟨Nat.le_of_ble_eq_true rfl, Nat.le_of_ble_eq_true rfl⟩) (g_preV hG (g_recv hG (hG.fz hk1) (ci := 33) rfl)) rfl rfl hl.1 rfl (lv_room (Nat.le_of_ble_eq_true rfl)) dJ7_iterator_6 ⟨Nat.le_of_ble_eq_true rfl, Nat.le_of_ble_eq_true rfl⟩) hG (fun r_1 F_2 V_3 ws_ H locs hp hG => ?_)
  obtain ⟨rfl, rfl, rfl, rfl⟩ := hp
  have hG : gW X F V ((it, oB 34 [.null, .int (zI 0), .int (zI 0), .int (zI 0)]) :: Z) s H locs := hG
  refine g_cv (va_runI (As := [.ref kl, .int (zI 7)]) (rest := [.ref it]) ⟨hx, hb, hml, hown, hts⟩ (metJ31_init) (cwI 2 hts (lw_meth q1364) rfl rfl rfl (hts _ q134) (hts _ q1362) (hts _ q1363) rfl (by decide +kernel) ⟨Nat.le_of_ble_eq_true rfl, Nat.le_of_ble_eq_true rfl⟩) (g_preS hG) rfl rfl hl.1 rfl (lv_room (Nat.le_of_ble_eq_true rfl)) dJ7_iterator_9 ⟨Nat.le_of_ble_eq_true rfl, Nat.le_of_ble_eq_true rfl⟩) hG (fun F_5 V_6 ws_ H locs hp hG => ?_)
  obtain ⟨rfl, rfl, rfl⟩ := hp
  have hG : gW X F V ((it, oB 34 [.ref kl, .int (zI 7), .int (zI 0), .int (zI 0)]) :: Z) s H locs := hG
  exact g_rret hx hb hr (Or.inl ⟨_, rfl⟩) hlocks hG (⟨rfl, rfl, rfl⟩) ⟨Nat.le_of_ble_eq_true rfl, Nat.le_of_ble_eq_true rfl⟩ dJ7_iterator_12

set_option maxHeartbeats 4000000 in
theorem metJ31_hasNext {l : Launch} {X : gX} {F : gF} {V : gV} {Z : va_W} {it kl j : Nat} (hj : j ≤ 7) : Met l yJ31_hasNext (ws_ yJ31_hasNext cJ31_hasNext 1 (some FieldType.boolean)) ({ frames := 0, cells := 0, slots := 0, locals := 0 }) (gP X F V ((it, oB 34 [.ref kl, .int (zI 7), .int (zI 0), .int (zI (j : Int))]) :: Z) [.ref it]) (gQi X (fun u G U ws => u = zI (bI (decide (j < 7))) ∧ F = G ∧ V = U ∧ ((it, oB 34 [.ref kl, .int (zI 7), .int (zI 0), .int (zI (j : Int))]) :: Z) = ws)) 0 0 (gA X) := by
  refine Met.g (by decide) (Nat.le_of_ble_eq_true rfl) ?_
  intro p e s m below meth c ls hx hb hr hts hown hlocks hml hin hG hl
  have hl : lv_has ls 1 [(0, .ref it)] := hl
  refine lv_aload_n hx hb dJ31_hasNext_0 rfl (lv_at hl 0 rfl) ?_
  refine g_get (ci := 34) hx hb hts in_J31 hown hG (hG.at 0 rfl) rfl 3 (Nat.le_of_ble_eq_true rfl) (hts _ q1369) (fun _ h9 => h9) rfl dJ31_hasNext_1 ?_
  refine lv_aload_n hx hb dJ31_hasNext_4 rfl (lv_at hl 0 rfl) ?_
  refine g_get (ci := 34) hx hb hts in_J31 hown hG (hG.at 0 rfl) rfl 1 (Nat.le_of_ble_eq_true rfl) (hts _ q1367) (fun _ h9 => h9) rfl dJ31_hasNext_5 ?_
  refine g_ceq (tgt := 15) hx hb dJ31_hasNext_8 (by decide) (by omega) (fun h1 => ?_) (fun h1 => ?_)
  · refine lv_iconst (v := zI 0) hx hb dJ31_hasNext_15 (by decide +kernel) ?_
    exact g_zret hx hb hr hlocks rfl hG (⟨by rw [decide_eq_false (by omega)]; rfl, rfl, rfl, rfl⟩) ⟨Nat.le_of_ble_eq_true rfl, Nat.le_of_ble_eq_true rfl⟩ dJ31_hasNext_16
  · refine lv_iconst (v := zI 1) hx hb dJ31_hasNext_11 (by decide +kernel) ?_
    refine lv_goto (tgt := 16) hx hb dJ31_hasNext_12 (by decide) ?_
    exact g_zret hx hb hr hlocks rfl hG (⟨by rw [decide_eq_true (by omega)]; rfl, rfl, rfl, rfl⟩) ⟨Nat.le_of_ble_eq_true rfl, Nat.le_of_ble_eq_true rfl⟩ dJ31_hasNext_16

set_option maxHeartbeats 4000000 in
theorem metJ31_next {l : Launch} {X : gX} {F : gF} {V : gV} {Z : va_W} {it j : Nat} {kl ka : Nat} {g : Nat → Option Nat} (hk1 : F.1 kl = some (oB 33 [.ref ka, .int (zI 0)])) (hk2 : F.1 ka = some (aR (gT X 10) 7 g)) (hj : j < 7) (hgj : g j = some (ga X (j + 128))) : vx_Met l yJ31_next (wsW_ yJ31_next cJ31_next 3 (some (FieldType.object "java/lang/Object")) [(0, 24, 25, 30)]) ({ frames := 1, cells := 0, slots := 0, locals := 21 }) (gP X F V ((it, oB 34 [.ref kl, .int (zI 7), .int (zI 0), .int (zI (j : Int))]) :: Z) [.ref it]) (gQr X (fun u G U ws => u = ga X (j + 128) ∧ F = G ∧ V = U ∧ ((it, oB 34 [.ref kl, .int (zI 7), .int (zI 0), .int (zI ((j : Int) + 1))]) :: Z) = ws)) (gXc X (fun _ _ _ _ _ => False)) 0 0 (gA X) := by
  refine vx_Met.gH (by decide) (Nat.le_of_ble_eq_true rfl) ?_
  intro p e s m below meth c ls hx hb hr hts hown hlocks hml hin htab hG hl
  have hl : lv_has ls 3 [(0, .ref it)] := hl
  refine lv_aload_n hx hb dJ31_next_0 rfl (lv_at hl 0 rfl) ?_
  refine g_get (ci := 34) hx hb hts in_J31 hown hG (hG.at 0 rfl) rfl 3 (Nat.le_of_ble_eq_true rfl) (hts _ q1369) (fun _ h9 => h9) rfl dJ31_next_1 ?_
  refine lv_istore_n (lv' := [(1, .int (zI (j : Int))), (0, .ref it)]) hx hb dJ31_next_4 rfl hl (by decide) rfl (fun ls hl => ?_)
  refine lv_aload_n hx hb dJ31_next_5 rfl (lv_at hl 1 rfl) ?_
  refine g_get (ci := 34) hx hb hts in_J31 hown hG (hG.at 0 rfl) rfl 0 (Nat.le_of_ble_eq_true rfl) (hts _ q1366) (fun _ h9 => h9) rfl dJ31_next_6 ?_
  refine lv_iload_n hx hb dJ31_next_9 rfl (lv_at hl 0 rfl) ?_
  refine g_Fr (va_runF (C := "java/util/ImmutableCollections$ListN") (g_cls hG (ci := 33) rfl) (As := [.int (zI (j : Int))]) (rest := []) ⟨hx, hb, hml, hown, hts⟩ (metJ9_get hk1 hk2 hj hgj) (va_cwF 1 hts (lw_F q1658 q1687 q1689 q99 q1691) rfl rfl rfl (hG.1.2.1.2.2.1 _ qf7) (by decide +kernel) ⟨Nat.le_of_ble_eq_true rfl, Nat.le_of_ble_eq_true rfl⟩) (g_preV hG (g_recv hG (hG.fz hk1) (ci := 33) rfl)) rfl rfl hl.1 rfl (lv_room (Nat.le_of_ble_eq_true rfl)) dJ31_next_10 ⟨Nat.le_of_ble_eq_true rfl, Nat.le_of_ble_eq_true rfl⟩) hG (fun r_1 F_2 V_3 ws_ H locs hp hG => ?_)
  obtain ⟨rfl, rfl, rfl, rfl⟩ := hp
  have hG : gW X F V ((it, oB 34 [.ref kl, .int (zI 7), .int (zI 0), .int (zI (j : Int))]) :: Z) s H locs := hG
  refine lv_astore_n (lv' := [(2, .ref (ga X (j + 128))), (1, .int (zI (j : Int))), (0, .ref it)]) hx hb dJ31_next_15 rfl hl (by decide) rfl (fun ls hl => ?_)
  refine lv_aload_n hx hb dJ31_next_16 rfl (lv_at hl 2 rfl) ?_
  refine lv_iload_n hx hb dJ31_next_17 rfl (lv_at hl 1 rfl) ?_
  refine lv_iconst (v := zI 1) hx hb dJ31_next_18 (by decide +kernel) ?_
  refine g_iadd hx hb dJ31_next_19 ?_
  refine g_put (ci := 34) hx hb hts in_J31 tyJ31 tyJ31_ok nmJ31 hown hG 0 rfl rfl 3 (Nat.le_of_ble_eq_true rfl) (hts _ q1369) (fun _ h9 => h9) rfl (tyJ31_ok 3 (Nat.le_of_ble_eq_true rfl)) rfl rfl (Nat.le_of_ble_eq_true rfl) dJ31_next_20 (fun H locs (hG : gW X F V ((it, oB 34 [.ref kl, .int (zI 7), .int (zI 0), .int (zI ((j : Int) + 1))]) :: Z) s H locs) => ?_)
  refine lv_aload_n hx hb dJ31_next_23 rfl (lv_at hl 0 rfl) ?_
  refine vx_ret ?_
  exact g_rret hx hb hr (Or.inl ⟨_, rfl⟩) hlocks hG (⟨rfl, rfl, rfl, rfl⟩) ⟨Nat.le_of_ble_eq_true rfl, Nat.le_of_ble_eq_true rfl⟩ dJ31_next_24

set_option maxHeartbeats 4000000 in
theorem metX0_fitting {l : Launch} {X : gX} {F : gF} {V : gV} {Z : va_W} {x sa rf tr tb kl wa rv rk st : Nat} {sh ra la ma : Nat → Nat} {im : Option Nat} {a : aS} (hS : xS X F V x a sa rf tr tb kl wa rv rk st sh ra la ma im) (hA : aOK a) (hst : l.stackTraces = false) {v y : Int} (hrv : (-2147483648 ≤ v ∧ v < 2147483648)) (hry : (-2147483648 ≤ y ∧ y < 2147483648)) : vx_Met l yX0_fitting (wsW_ yX0_fitting cX0_fitting 9 (some FieldType.int) [(0, 134, 135, 21)]) ({ frames := 9, cells := 3900, slots := 92000, locals := 203 }) (gP X F V (Z) [.ref x, .int (zI v), .int (zI y)]) (gQi X (fun u G U ws => gLe F G ∧ u = (opFitting a v y).1 ∧ xX X G U x (opFitting a v y).2 ∧ Z = ws)) (gXc X (fun _ _ _ _ _ => False)) 3900 92000 (gA X) := by
  refine vx_Met.gH (by decide) (Nat.le_of_ble_eq_true rfl) ?_
  intro p e s m below meth c ls hx hb hr hts hown hlocks hml hin htab hG hl
  have hl : lv_has ls 9 [(0, .ref x), (1, .int (zI v)), (2, .int (zI y))] := hl
  have hSA := hS
  obtain ⟨hx0, ⟨fs9, hx1, hsh⟩, ⟨gr9, hx2, hgr⟩, hx3, hx4, hW, hx6, hx7⟩ := hSA
  have hSA := hS
  have hK := hA.w
  have hNN := hK.n
  have hMM := hK.m
  obtain ⟨hw0, ⟨fR, hw1, hwR⟩, ⟨fM, hw2, hwM⟩, ⟨fS, hw3, hwS⟩, hR, hMk⟩ := id hW
  have hw0 : V 4 = some (wa, oB 2 [.int (zI (wN (aWd a) : Int)), .int (zI (wM (aWd a) : Int)), .int (zI (wRun (aWd a) : Int)), .int (zI (wNeed (aWd a) : Int)), .int (zI (wMar (aWd a) : Int)), .int (wSeed (aWd a)), .ref rv, .ref rk, .ref st]) := hw0
  have hw1 : V 5 = some (rv, aR (gT X 7) 16 fR) := hw1
  have hw2 : V 6 = some (rk, aR (gT X 8) 16 fM) := hw2
  have hw3 : V 7 = some (st, aI (gT X 5) 16 fS) := hw3
  refine lv_aload_n hx hb dX0_fitting_0 rfl (lv_at hl 0 rfl) ?_
  refine lv_iload_n hx hb dX0_fitting_1 rfl (lv_at hl 1 rfl) ?_
  obtain ⟨ka, gk, hk1, hk2, hk3⟩ := hx4
  by_cases hcv : 0 ≤ v ∧ v < wM (aWd a)
  · obtain ⟨v1, rfl⟩ : ∃ z : Nat, v = (z : Int) := ⟨v.toNat, by omega⟩
    refine g_cr (va_runV (As := [.int (zI (v1 : Int))]) (rest := []) ⟨hx, hb, hml, hown, hts⟩ (metX0_told_t (r := v1) hS hA (by omega)) (cwV 1 hts (lw_V q700 q702 qs3 q87 q703) rfl rfl rfl (by decide +kernel) ⟨Nat.le_of_ble_eq_true rfl, Nat.le_of_ble_eq_true rfl⟩) (g_preV hG (g_recv hG (hG.vo hx0) (ci := 0) rfl)) rfl rfl hl.1 rfl (lv_room (Nat.le_of_ble_eq_true rfl)) dX0_fitting_2 ⟨by show _ ≤ 3900; omega, by show _ ≤ 92000; omega⟩) hG (fun r_1 F_2 V_3 ws_ H locs hp hG => ?_)
    obtain ⟨rfl, rfl, rfl, rfl⟩ := hp
    have hG : gW X F V (Z) s H locs := hG
    have hrkv1 := hK.rk (m := v1) (by omega)
    have hrmv1 := hMk v1 (by omega)
    have hkdv1 := hrkv1.1
    refine lv_astore_n (lv' := [(3, .ref (ma v1)), (0, .ref x), (1, .int (zI (v1 : Int))), (2, .int (zI y))]) hx hb dX0_fitting_5 rfl hl (by decide) rfl (fun ls hl => ?_)
    refine lv_aload_n hx hb dX0_fitting_6 rfl (lv_at hl 1 rfl) ?_
    refine lv_iload_n hx hb dX0_fitting_7 rfl (lv_at hl 3 rfl) ?_
    by_cases hcy : 0 ≤ y ∧ y < wN (aWd a)
    · obtain ⟨y1, rfl⟩ : ∃ z : Nat, y = (z : Int) := ⟨y.toNat, by omega⟩
      refine g_cr (va_runV (As := [.int (zI (y1 : Int))]) (rest := []) ⟨hx, hb, hml, hown, hts⟩ (metX0_revision_t (r := y1) hS hA (by omega)) (cwV 1 hts (lw_V q737 q739 qs4 q87 q740) rfl rfl rfl (by decide +kernel) ⟨Nat.le_of_ble_eq_true rfl, Nat.le_of_ble_eq_true rfl⟩) (g_preV hG (g_recv hG (hG.vo hx0) (ci := 0) rfl)) rfl rfl hl.1 rfl (lv_room (Nat.le_of_ble_eq_true rfl)) dX0_fitting_8 ⟨by show _ ≤ 3900; omega, by show _ ≤ 92000; omega⟩) hG (fun r_4 F_5 V_6 ws_ H locs hp hG => ?_)
      obtain ⟨rfl, rfl, rfl, rfl⟩ := hp
      have hG : gW X F V (Z) s H locs := hG
      have hlny1 : aLn a ((y1 : Nat) : Int) = ((wTx (aWd a) y1).length : Nat) := rfl
      have h24y1 := (hK.tx (r := y1) (by omega)).1
      refine lv_astore (lv' := [(4, .ref (ra y1)), (3, .ref (ma v1)), (0, .ref x), (1, .int (zI (v1 : Int))), (2, .int (zI (y1 : Int)))]) hx hb dX0_fitting_11 hl (by decide) rfl (fun ls hl => ?_)
      refine lv_aload hx hb dX0_fitting_13 (lv_at hl 0 rfl) ?_
      refine lv_aload_n hx hb dX0_fitting_15 rfl (lv_at hl 1 rfl) ?_
      refine g_rmget hx hb hkdv1 hts hown hG (hG.fz hrmv1) 2 (by decide) (hts _ q2084) rfl dX0_fitting_16 ?_
      rcases hb9 : beh (wFo (aWd a)) y1 (rOn (wRk (aWd a) v1)) with _ | n
      · refine g_xv (vx_runS (As := [.ref (ra y1), .ref (ra (rOn (wRk (aWd a) v1)))]) (rest := []) ⟨hx, hb, hml, hown, hts⟩ (metX0_mustBehind_f hR hK (by omega) hrkv1.2.2.1 hb9) (va_cwS 2 hts (lw_S q1949 q1950 q87 q1951) rfl rfl rfl (by decide +kernel) ⟨Nat.le_of_ble_eq_true rfl, Nat.le_of_ble_eq_true rfl⟩) (g_preS hG) rfl rfl hl.1 rfl (lv_room (Nat.le_of_ble_eq_true rfl)) dX0_fitting_19 ⟨by show _ ≤ 3900; omega, by show _ ≤ 92000; omega⟩) hG (fun E9 ce9 q9 Fx_10 Vx_11 ws_ H locs hpx hG hce => ?_) (fun F_8 V_9 ws_ H locs hp hG => ?_)
        · obtain ⟨rfl, hle_Fx_10, hq9, rfl, rfl⟩ := hpx
          have hG : gW X Fx_10 V (Z) s H locs := hG
          refine g_catch (name := "LineRemarks$Refused") hown htab [] ⟨0, 134, 135, 21⟩ [] rfl (fun z9 hz9 => absurd hz9 List.not_mem_nil) (by decide) (by decide) (hts _ q410) (hG.1.2.1.1 _ qn498) hce ?_
          refine lv_astore_n (lv' := [(3, .ref q9), (4, .ref (ra y1)), (0, .ref x), (1, .int (zI (v1 : Int))), (2, .int (zI (y1 : Int)))]) hx hb dX0_fitting_135 rfl hl (by decide) rfl (fun ls hl => ?_)
          refine lv_aload_n hx hb dX0_fitting_136 rfl (lv_at hl 2 rfl) ?_
          refine lv_aload_n hx hb dX0_fitting_137 rfl (lv_at hl 0 rfl) ?_
          refine g_ci (va_runV (As := [.ref q9]) (rest := []) ⟨hx, hb, hml, hown, hts⟩ (metX0_refused (k := 6) (hS.mono hle_Fx_10) hA hq9 (by decide)) (cwV 1 hts (lw_V q589 q591 qs2 q87 q592) rfl rfl rfl (by decide +kernel) ⟨Nat.le_of_ble_eq_true rfl, Nat.le_of_ble_eq_true rfl⟩) (g_preV hG (g_recv hG (hG.vo hx0) (ci := 0) rfl)) rfl rfl hl.1 rfl (lv_room (Nat.le_of_ble_eq_true rfl)) dX0_fitting_138 ⟨by show _ ≤ 3900; omega, by show _ ≤ 92000; omega⟩) hG (fun r_12 F_13 V_14 ws_ H locs hp hG => ?_)
          obtain ⟨rfl, rfl, hS9, rfl⟩ := hp
          have hG : gW X Fx_10 V_14 (Z) s H locs := hG
          refine vx_ret ?_
          exact g_iret hx hb hr hlocks hG (by have e9 : opFitting a (v1 : Int) (y1 : Int) = (zI (-((6 : Nat) : Int)), aNo a 6) := (by unfold opFitting; rw [if_neg (by omega), show beh (wFo (aWd a)) ((y1 : Nat) : Int).toNat (rOn (wRk (aWd a) ((v1 : Nat) : Int).toNat)) = none from hb9]; first | done | rfl); rw [e9]; exact ⟨hle_Fx_10, rfl, hS9.ex, rfl⟩) ⟨by show _ ≤ 3900; omega, by show _ ≤ 92000; omega⟩ dX0_fitting_141
        exact hp.elim
      · refine g_cv (va_runS (As := [.ref (ra y1), .ref (ra (rOn (wRk (aWd a) v1)))]) (rest := []) ⟨hx, hb, hml, hown, hts⟩ (metX0_mustBehind_t hR hK (by omega) hrkv1.2.2.1 hb9) (va_cwS 2 hts (lw_S q1949 q1950 q87 q1951) rfl rfl rfl (by decide +kernel) ⟨Nat.le_of_ble_eq_true rfl, Nat.le_of_ble_eq_true rfl⟩) (g_preS hG) rfl rfl hl.1 rfl (lv_room (Nat.le_of_ble_eq_true rfl)) dX0_fitting_19 ⟨by show _ ≤ 3900; omega, by show _ ≤ 92000; omega⟩) hG (fun F_16 V_17 ws_ H locs hp hG => ?_)
        obtain ⟨rfl, rfl, rfl⟩ := hp
        have hG : gW X F V (Z) s H locs := hG
        refine lv_iconst (v := zI 0) hx hb dX0_fitting_22 (by decide +kernel) ?_
        refine lv_istore (lv' := [(5, .int (zI 0)), (4, .ref (ra y1)), (3, .ref (ma v1)), (0, .ref x), (1, .int (zI (v1 : Int))), (2, .int (zI (y1 : Int)))]) hx hb dX0_fitting_23 hl (by decide) rfl (fun ls hl => ?_)
        refine lv_aload_n hx hb dX0_fitting_25 rfl (lv_at hl 3 rfl) ?_
        refine g_get (ci := 0) hx hb hts in_X0 hown hG (hG.vo hx0) rfl 3 (Nat.le_of_ble_eq_true rfl) (hts _ q387) (fun _ h9 => h9) rfl dX0_fitting_26 ?_
        refine g_Fr (va_runF (C := "java/util/ImmutableCollections$ListN") (g_cls hG (ci := 33) rfl) (As := []) (rest := []) ⟨hx, hb, hml, hown, hts⟩ (metJ7_iterator hk1 hk2) (va_cwF 0 hts (lw_F q1296 q1379 q1353 q97 q1355) rfl rfl rfl (hG.1.2.1.2.2.1 _ qf6) (by decide +kernel) ⟨Nat.le_of_ble_eq_true rfl, Nat.le_of_ble_eq_true rfl⟩) (g_preV hG (g_recv hG (hG.fz hk1) (ci := 33) rfl)) rfl rfl hl.1 rfl (lv_room (Nat.le_of_ble_eq_true rfl)) dX0_fitting_29 ⟨by show _ ≤ 3900; omega, by show _ ≤ 92000; omega⟩) hG (fun it F_18 V_19 ws_ H locs hp hG => ?_)
        obtain ⟨rfl, rfl, rfl⟩ := hp
        have hG : gW X F V ((it, oB 34 [.ref kl, .int (zI 7), .int (zI 0), .int (zI 0)]) :: Z) s H locs := hG
        refine lv_astore (lv' := [(6, .ref it), (5, .int (zI 0)), (4, .ref (ra y1)), (3, .ref (ma v1)), (0, .ref x), (1, .int (zI (v1 : Int))), (2, .int (zI (y1 : Int)))]) hx hb dX0_fitting_34 hl (by decide) rfl (fun ls hl => ?_)
        have hl : lv_has ls 9 [(6, .ref it), (5, .int (btI (fun k => decide (kHow (wkTo (aWd a) (wRk (aWd a) v1) k y1 n n) ≠ 3)) 0)), (4, .ref (ra y1)), (3, .ref (ma v1)), (0, .ref x), (1, .int (zI (v1 : Int))), (2, .int (zI (y1 : Int)))] := by exact hl
        refine g_loopA (fun mz H locs ls => ∃ (k : Nat) (F1 : gF), (k ≤ 7 ∧ mz = 7 - k ∧ gLe F F1) ∧ gW X F1 V ((it, oB 34 [.ref kl, .int (zI 7), .int (zI 0), .int (zI (k : Int))]) :: Z) s H locs ∧ lv_has ls 9 [(0, .ref x), (3, .ref (ma v1)), (4, .ref (ra y1)), (5, .int (btI (fun k => decide (kHow (wkTo (aWd a) (wRk (aWd a) v1) k y1 n n) ≠ 3)) k)), (6, .ref it)]) (7 - 0) 552 13073 3900 92000 ⟨0, F, ⟨by omega, rfl, gLe.rfl (V := V)⟩, hG, (lv_sub hl [4, 3, 2, 1, 0] rfl)⟩ ⟨by omega, by omega⟩ (fun mz ihA H locs ls cells slots hroom hI => ?_)
        obtain ⟨k, F1, ⟨hk, hmz, hle_F1⟩, hG, hl⟩ := hI
        have hk1F := hle_F1.1 _ _ hk1
        have hk2F := hle_F1.1 _ _ hk2
        have hR1 := hR.mono hle_F1
        have hrmF := hrmv1.mono hle_F1
        refine lv_aload hx hb dX0_fitting_36 (lv_at hl 4 rfl) ?_
        refine g_Fi (va_runF (C := "java/util/ImmutableCollections$ListItr") (g_cls hG (ci := 34) rfl) (As := []) (rest := []) ⟨hx, hb, hml, hown, hts⟩ (metJ31_hasNext (j := k) hk) (va_cwF 0 hts (lw_F q1472 q1501 q1503 q134 q1505) rfl rfl rfl (hG.1.2.1.2.2.1 _ qf17) (by decide +kernel) ⟨Nat.le_of_ble_eq_true rfl, Nat.le_of_ble_eq_true rfl⟩) (g_preV hG (g_recv hG (hG.at 0 rfl) (ci := 34) rfl)) rfl rfl hl.1 rfl (lv_room (Nat.le_of_ble_eq_true rfl)) dX0_fitting_38 ⟨by show _ ≤ 3900; omega, by show _ ≤ 92000; omega⟩) hG (fun r_20 F_21 V_22 ws_ H locs hp hG => ?_)
        obtain ⟨rfl, rfl, rfl, rfl⟩ := hp
        have hG : gW X F1 V ((it, oB 34 [.ref kl, .int (zI 7), .int (zI 0), .int (zI (k : Int))]) :: Z) s H locs := hG
        by_cases hk7 : k < 7
        · refine g_topz (y := 1) (by rw [decide_eq_true hk7]; rfl) ?_
          refine g_eq (tgt := 132) hx hb dX0_fitting_43 (by decide) (by decide) (fun hq => ?_) (fun hq => ?_)
          · exfalso; omega
          · refine lv_aload hx hb dX0_fitting_46 (lv_at hl 4 rfl) ?_
            refine g_xFr (vx_runFW (C := "java/util/ImmutableCollections$ListItr") (g_cls hG (ci := 34) rfl) (As := []) (rest := []) ⟨hx, hb, hml, hown, hts⟩ (metJ31_next (j := k) hk1F hk2F hk7 (hk3 k hk7)) (va_cwFW 0 hts (lw_FW q1513 q1652 q1654 q134 q1656) rfl rfl rfl (hG.1.2.1.2.2.1 _ qf18) (by decide +kernel) ⟨Nat.le_of_ble_eq_true rfl, Nat.le_of_ble_eq_true rfl⟩) (g_preV hG (g_recv hG (hG.at 0 rfl) (ci := 34) rfl)) rfl rfl hl.1 rfl (lv_room (Nat.le_of_ble_eq_true rfl)) dX0_fitting_48 ⟨by show _ ≤ 3900; omega, by show _ ≤ 92000; omega⟩) hG (fun E9 ce9 q9 Fx_26 Vx_27 ws_ H locs hpx hG hce => ?_) (fun r_23 F_24 V_25 ws_ H locs hp hG => ?_)
            · exact hpx.elim
            obtain ⟨rfl, rfl, rfl, rfl⟩ := hp
            have hG : gW X F1 V ((it, oB 34 [.ref kl, .int (zI 7), .int (zI 0), .int (zI ((k : Int) + 1))]) :: Z) s H locs := hG
            refine va_castE hx hb hown (hts _ q2488) (g_int_recv hG (k := (k + 128)) (by omega)) dX0_fitting_53 ?_
            refine g_ci (va_runV (As := []) (rest := []) ⟨hx, hb, hml, hown, hts⟩ (metJ1_intValue (i := k) (by omega)) (cwV 0 hts (lw_V q2489 q2259 q2260 q90 q2261) rfl rfl rfl (by decide +kernel) ⟨Nat.le_of_ble_eq_true rfl, Nat.le_of_ble_eq_true rfl⟩) (g_preV hG (g_int_recv hG (k := (k + 128)) (by omega))) rfl rfl hl.1 rfl (lv_room (Nat.le_of_ble_eq_true rfl)) dX0_fitting_56 ⟨by show _ ≤ 3900; omega, by show _ ≤ 92000; omega⟩) hG (fun r_28 F_29 V_30 ws_ H locs hp hG => ?_)
            obtain ⟨rfl, rfl, rfl, rfl⟩ := hp
            have hG : gW X F1 V ((it, oB 34 [.ref kl, .int (zI 7), .int (zI 0), .int (zI ((k : Int) + 1))]) :: Z) s H locs := hG
            refine lv_istore (lv' := [(7, .int (zI (k : Int))), (0, .ref x), (3, .ref (ma v1)), (4, .ref (ra y1)), (5, .int (btI (fun k => decide (kHow (wkTo (aWd a) (wRk (aWd a) v1) k y1 n n) ≠ 3)) k)), (6, .ref it)]) hx hb dX0_fitting_59 hl (by decide) rfl (fun ls hl => ?_)
            refine lv_iload hx hb dX0_fitting_61 (lv_at hl 0 rfl) ?_
            refine lv_aload_n hx hb dX0_fitting_63 rfl (lv_at hl 2 rfl) ?_
            refine g_rmget hx hb hkdv1 hts hown hG (hG.fz hrmF) 0 (by decide) (hts _ q2066) rfl dX0_fitting_64 ?_
            refine lv_aload_n hx hb dX0_fitting_67 rfl (lv_at hl 2 rfl) ?_
            refine g_rmget hx hb hkdv1 hts hown hG (hG.fz hrmF) 1 (by decide) (hts _ q2079) rfl dX0_fitting_68 ?_
            refine lv_aload_n hx hb dX0_fitting_71 rfl (lv_at hl 2 rfl) ?_
            refine g_rmget hx hb hkdv1 hts hown hG (hG.fz hrmF) 2 (by decide) (hts _ q2084) rfl dX0_fitting_72 ?_
            refine lv_aload_n hx hb dX0_fitting_75 rfl (lv_at hl 2 rfl) ?_
            refine g_rmget hx hb hkdv1 hts hown hG (hG.fz hrmF) 3 (by decide) (hts _ q2090) rfl dX0_fitting_76 ?_
            refine lv_aload_n hx hb dX0_fitting_79 rfl (lv_at hl 2 rfl) ?_
            refine g_rmget hx hb hkdv1 hts hown hG (hG.fz hrmF) 4 (by decide) (hts _ q2097) rfl dX0_fitting_80 ?_
            refine lv_aload_n hx hb dX0_fitting_83 rfl (lv_at hl 2 rfl) ?_
            refine g_rmget hx hb hkdv1 hts hown hG (hG.fz hrmF) 5 (by decide) (hts _ q2100) rfl dX0_fitting_84 ?_
            refine g_cr (va_runS (As := [.int (zI (k : Int)), .int (zI (v1 : Int)), .int (zI (rBy (wRk (aWd a) v1) : Int)), .ref (ra (rOn (wRk (aWd a) v1))), .int (zI (rP (wRk (aWd a) v1) : Int)), .int (zI (rQ (wRk (aWd a) v1) : Int)), .int (zI (oI (rAns (wRk (aWd a) v1))))]) (rest := []) ⟨hx, hb, hml, hown, hts⟩ (metX0_ofKind (kd := k) (by omega)) (va_cwS 7 hts (lw_S q2490 q2052 q87 q2053) rfl rfl rfl (by decide +kernel) ⟨Nat.le_of_ble_eq_true rfl, Nat.le_of_ble_eq_true rfl⟩) (g_preS hG) rfl rfl hl.1 rfl (lv_room (Nat.le_of_ble_eq_true rfl)) dX0_fitting_87 ⟨by show _ ≤ 3900; omega, by show _ ≤ 92000; omega⟩) hG (fun rm2 F_31 V_32 ws_ H locs hp hG => ?_)
            obtain ⟨rfl, rfl, rfl⟩ := hp
            have hG : gW X F1 V ((rm2, oB (14 + k) [.int (zI (v1 : Int)), .int (zI (rBy (wRk (aWd a) v1) : Int)), .ref (ra (rOn (wRk (aWd a) v1))), .int (zI (rP (wRk (aWd a) v1) : Int)), .int (zI (rQ (wRk (aWd a) v1) : Int)), .int (zI (oI (rAns (wRk (aWd a) v1))))]) :: (it, oB 34 [.ref kl, .int (zI 7), .int (zI 0), .int (zI ((k : Int) + 1))]) :: Z) s H locs := hG
            obtain ⟨G2, hle_G2, hrm2, hG⟩ := hG.freeze
            have hG : gW X G2 V ((it, oB 34 [.ref kl, .int (zI 7), .int (zI 0), .int (zI ((k : Int) + 1))]) :: Z) s _ _ := hG
            have hrm2 : isRmk G2 ra rm2 k v1 (wRk (aWd a) v1) := hrm2
            refine lv_astore (lv' := [(8, .ref rm2), (7, .int (zI (k : Int))), (0, .ref x), (3, .ref (ma v1)), (4, .ref (ra y1)), (5, .int (btI (fun k => decide (kHow (wkTo (aWd a) (wRk (aWd a) v1) k y1 n n) ≠ 3)) k)), (6, .ref it)]) hx hb dX0_fitting_90 hl (by decide) rfl (fun ls hl => ?_)
            refine lv_iload hx hb dX0_fitting_92 (lv_at hl 5 rfl) ?_
            refine g_new (ci := 21) hx hb hts in_X23 tyX23 tyX23_ok hown (hts _ q2280) (hts _ q2281) (hts _ q152) hG rfl (fs := [.null, .null, .null, .null, .null, .int (zI 0)]) rfl ⟨by show _ ≤ 3900; omega, by show _ ≤ 92000; omega⟩ dX0_fitting_94 (fun wk H (hG : gW X G2 V ((wk, oB 21 [.null, .null, .null, .null, .null, .int (zI 0)]) :: (it, oB 34 [.ref kl, .int (zI 7), .int (zI 0), .int (zI ((k : Int) + 1))]) :: Z) s H _) => ?_)
            refine lv_dup hx hb dX0_fitting_97 rfl ?_
            refine lv_aload_n hx hb dX0_fitting_98 rfl (lv_at hl 2 rfl) ?_
            refine g_get (ci := 0) hx hb hts in_X0 hown hG (hG.vo hx0) rfl 4 (Nat.le_of_ble_eq_true rfl) (hts _ q388) (fun _ h9 => h9) rfl dX0_fitting_99 ?_
            refine g_cv (va_runI (As := [.ref wa]) (rest := [.ref wk, .int (btI (fun k => decide (kHow (wkTo (aWd a) (wRk (aWd a) v1) k y1 n n) ≠ 3)) k)]) ⟨hx, hb, hml, hown, hts⟩ (metX23_init) (cwI 1 hts (lw_meth q2284) rfl rfl rfl (hts _ q152) (hts _ q2282) (hts _ q2283) rfl (by decide +kernel) ⟨Nat.le_of_ble_eq_true rfl, Nat.le_of_ble_eq_true rfl⟩) (g_preS hG) rfl rfl hl.1 rfl (lv_room (Nat.le_of_ble_eq_true rfl)) dX0_fitting_102 ⟨by show _ ≤ 3900; omega, by show _ ≤ 92000; omega⟩) hG (fun F_34 V_35 ws_ H locs hp hG => ?_)
            obtain ⟨rfl, rfl, sp, cx, cl, rfl⟩ := hp
            have hG : gW X G2 V ((wk, oB 21 [.ref sp, .ref cx, .ref wa, .null, .null, .int (zI 0)]) :: (sp, oB 22 [.int (zI 0), .int (zI 0)]) :: (cx, oB 23 [.ref cl, .null, .null]) :: (it, oB 34 [.ref kl, .int (zI 7), .int (zI 0), .int (zI ((k : Int) + 1))]) :: Z) s H locs := hG
            refine lv_aload hx hb dX0_fitting_105 (lv_at hl 0 rfl) ?_
            refine lv_aload hx hb dX0_fitting_107 (lv_at hl 4 rfl) ?_
            refine g_cr (va_runV (As := [.ref rm2, .ref (ra y1)]) (rest := [.int (btI (fun k => decide (kHow (wkTo (aWd a) (wRk (aWd a) v1) k y1 n n) ≠ 3)) k)]) ⟨hx, hb, hml, hown, hts⟩ (metX23_to (t := y1) (n := n) (p9 := 0) (q9 := 0) (al := none) (be := none) (v3 := .null) (v4 := .null) (h9 := 0) (hR1.mono hle_G2) hK hW.1 hrm2 (by omega) ⟨hrkv1.2.1, hrkv1.2.2.1, hrkv1.2.2.2.1, hrkv1.2.2.2.2.1⟩ (by omega) hb9) (cwV 2 hts (lw_V q2351 q2352 q2353 q152 q2354) rfl rfl rfl (by decide +kernel) ⟨Nat.le_of_ble_eq_true rfl, Nat.le_of_ble_eq_true rfl⟩) (g_preV hG (g_recv hG (hG.at 0 rfl) (ci := 21) rfl)) rfl rfl hl.1 rfl (lv_room (Nat.le_of_ble_eq_true rfl)) dX0_fitting_109 ⟨by show _ ≤ 3900; omega, by show _ ≤ 92000; omega⟩) hG (fun r_36 G3 V_37 ws_ H locs hp hG => ?_)
            obtain ⟨hle_G3, rfl, hu, h8, p8, q8, cl8, al8, be8, hk8, rfl⟩ := hp
            obtain rfl : wk = r_36 := hu.symm
            have hG : gW X G3 V ((wk, oB 21 [.ref sp, .ref cx, .ref wa, .ref rm2, .ref (ra y1), .int (zI h8)]) :: (sp, oB 22 [.int (zI p8), .int (zI q8)]) :: (cx, oB 23 [.ref cl8, va_rf al8, va_rf be8]) :: (it, oB 34 [.ref kl, .int (zI 7), .int (zI 0), .int (zI ((k : Int) + 1))]) :: Z) s H locs := hG
            obtain ⟨⟨hj1, hj2⟩, -⟩ := hk8
            refine g_ci (va_runV (As := []) (rest := [.int (btI (fun k => decide (kHow (wkTo (aWd a) (wRk (aWd a) v1) k y1 n n) ≠ 3)) k)]) ⟨hx, hb, hml, hown, hts⟩ (metX23_isLost (h9 := h8) (by omega)) (cwV 0 hts (lw_V q2463 q2379 q2380 q152 q2381) rfl rfl rfl (by decide +kernel) ⟨Nat.le_of_ble_eq_true rfl, Nat.le_of_ble_eq_true rfl⟩) (g_preV hG (g_recv hG (hG.at 0 rfl) (ci := 21) rfl)) rfl rfl hl.1 rfl (lv_room (Nat.le_of_ble_eq_true rfl)) dX0_fitting_112 ⟨by show _ ≤ 3900; omega, by show _ ≤ 92000; omega⟩) hG (fun r_38 F_39 V_40 ws_ H locs hp hG => ?_)
            obtain ⟨rfl, rfl, rfl, rfl⟩ := hp
            have hG : gW X G3 V ((wk, oB 21 [.ref sp, .ref cx, .ref wa, .ref rm2, .ref (ra y1), .int (zI h8)]) :: (sp, oB 22 [.int (zI p8), .int (zI q8)]) :: (cx, oB 23 [.ref cl8, va_rf al8, va_rf be8]) :: (it, oB 34 [.ref kl, .int (zI 7), .int (zI 0), .int (zI ((k : Int) + 1))]) :: Z) s H locs := hG
            by_cases h3 : h8 = 3
            · refine g_topz (y := 1) (if_pos h3) ?_
              have hn3 : ¬ (kHow (wkTo (aWd a) (wRk (aWd a) v1) k y1 n n) ≠ 3) := fun q => q (by have q : ((kHow (wkTo (aWd a) (wRk (aWd a) v1) k y1 n n) : Nat) : Int) = 3 := hj1.symm.trans h3; omega)
              refine g_eq (tgt := 122) hx hb dX0_fitting_115 (by decide) (by decide) (fun hq => ?_) (fun hq => ?_)
              · exfalso; omega
              · refine lv_iconst (v := zI 0) hx hb dX0_fitting_118 (by decide +kernel) ?_
                refine lv_goto (tgt := 126) hx hb dX0_fitting_119 (by decide) ?_
                refine lv_ior hx hb dX0_fitting_126 ?_
                have hbn : btI (fun k => decide (kHow (wkTo (aWd a) (wRk (aWd a) v1) k y1 n n) ≠ 3)) (k + 1) = ((btI (fun k => decide (kHow (wkTo (aWd a) (wRk (aWd a) v1) k y1 n n) ≠ 3)) k) ||| (zI 0)) := by rw [btI, if_neg (by show ¬ (decide _ = true); rw [decide_eq_false hn3]; decide)]; exact (ior_0 _).symm
                refine lv_istore (lv' := [(5, .int ((btI (fun k => decide (kHow (wkTo (aWd a) (wRk (aWd a) v1) k y1 n n) ≠ 3)) k) ||| (zI 0))), (8, .ref rm2), (7, .int (zI (k : Int))), (0, .ref x), (3, .ref (ma v1)), (4, .ref (ra y1)), (6, .ref it)]) hx hb dX0_fitting_127 hl (by decide) rfl (fun ls hl => ?_)
                refine lv_goto (tgt := 36) hx hb dX0_fitting_129 (by decide) ?_
                have hG : gW X G3 V ((sp, oB 22 [.int (zI p8), .int (zI q8)]) :: (cx, oB 23 [.ref cl8, va_rf al8, va_rf be8]) :: (it, oB 34 [.ref kl, .int (zI 7), .int (zI 0), .int (zI ((k : Int) + 1))]) :: Z) s _ _ := hG.drop 0 rfl rfl
                have hG : gW X G3 V ((cx, oB 23 [.ref cl8, va_rf al8, va_rf be8]) :: (it, oB 34 [.ref kl, .int (zI 7), .int (zI 0), .int (zI ((k : Int) + 1))]) :: Z) s _ _ := hG.drop 0 rfl rfl
                have hG : gW X G3 V ((it, oB 34 [.ref kl, .int (zI 7), .int (zI 0), .int (zI ((k : Int) + 1))]) :: Z) s _ _ := hG.drop 0 rfl rfl
                have hl : lv_has ls 9 [(5, .int (btI (fun k => decide (kHow (wkTo (aWd a) (wRk (aWd a) v1) k y1 n n) ≠ 3)) (k + 1))), (8, .ref rm2), (7, .int (zI (k : Int))), (0, .ref x), (3, .ref (ma v1)), (4, .ref (ra y1)), (6, .ref it)] := by rw [hbn]; exact hl
                have hG : gW X G3 V ((it, oB 34 [.ref kl, .int (zI 7), .int (zI 0), .int (zI ((k + 1 : Nat) : Int))]) :: Z) s H locs := hG
                exact ihA (7 - (k + 1)) (show 7 - (k + 1) < mz by omega) H locs ls _ _ (room_U hroom (show 7 - (k + 1) < mz by omega)) ⟨(k + 1), G3, ⟨by omega, rfl, (hle_F1.tr hle_G2).tr hle_G3⟩, hG, (lv_sub hl [3, 4, 5, 0, 6] rfl)⟩
            · refine g_topz (y := 0) (if_neg h3) ?_
              have hn3 : kHow (wkTo (aWd a) (wRk (aWd a) v1) k y1 n n) ≠ 3 := fun q => h3 (by rw [hj1, q]; rfl)
              refine g_eq (tgt := 122) hx hb dX0_fitting_115 (by decide) (by decide) (fun hq => ?_) (fun hq => ?_)
              · refine lv_iconst (v := zI 1) hx hb dX0_fitting_122 (by decide +kernel) ?_
                refine lv_iload hx hb dX0_fitting_123 (lv_at hl 1 rfl) ?_
                refine lv_ishl hx hb dX0_fitting_125 ?_
                refine lv_topx (bt1 (k : Int)) rfl ?_
                refine lv_ior hx hb dX0_fitting_126 ?_
                have hbn : btI (fun k => decide (kHow (wkTo (aWd a) (wRk (aWd a) v1) k y1 n n) ≠ 3)) (k + 1) = ((btI (fun k => decide (kHow (wkTo (aWd a) (wRk (aWd a) v1) k y1 n n) ≠ 3)) k) ||| (bt1 (k : Int))) := by rw [btI, if_pos (by exact decide_eq_true hn3)]
                refine lv_istore (lv' := [(5, .int ((btI (fun k => decide (kHow (wkTo (aWd a) (wRk (aWd a) v1) k y1 n n) ≠ 3)) k) ||| (bt1 (k : Int)))), (8, .ref rm2), (7, .int (zI (k : Int))), (0, .ref x), (3, .ref (ma v1)), (4, .ref (ra y1)), (6, .ref it)]) hx hb dX0_fitting_127 hl (by decide) rfl (fun ls hl => ?_)
                refine lv_goto (tgt := 36) hx hb dX0_fitting_129 (by decide) ?_
                have hG : gW X G3 V ((sp, oB 22 [.int (zI p8), .int (zI q8)]) :: (cx, oB 23 [.ref cl8, va_rf al8, va_rf be8]) :: (it, oB 34 [.ref kl, .int (zI 7), .int (zI 0), .int (zI ((k : Int) + 1))]) :: Z) s _ _ := hG.drop 0 rfl rfl
                have hG : gW X G3 V ((cx, oB 23 [.ref cl8, va_rf al8, va_rf be8]) :: (it, oB 34 [.ref kl, .int (zI 7), .int (zI 0), .int (zI ((k : Int) + 1))]) :: Z) s _ _ := hG.drop 0 rfl rfl
                have hG : gW X G3 V ((it, oB 34 [.ref kl, .int (zI 7), .int (zI 0), .int (zI ((k : Int) + 1))]) :: Z) s _ _ := hG.drop 0 rfl rfl
                have hl : lv_has ls 9 [(5, .int (btI (fun k => decide (kHow (wkTo (aWd a) (wRk (aWd a) v1) k y1 n n) ≠ 3)) (k + 1))), (8, .ref rm2), (7, .int (zI (k : Int))), (0, .ref x), (3, .ref (ma v1)), (4, .ref (ra y1)), (6, .ref it)] := by rw [hbn]; exact hl
                have hG : gW X G3 V ((it, oB 34 [.ref kl, .int (zI 7), .int (zI 0), .int (zI ((k + 1 : Nat) : Int))]) :: Z) s H locs := hG
                exact ihA (7 - (k + 1)) (show 7 - (k + 1) < mz by omega) H locs ls _ _ (room_U hroom (show 7 - (k + 1) < mz by omega)) ⟨(k + 1), G3, ⟨by omega, rfl, (hle_F1.tr hle_G2).tr hle_G3⟩, hG, (lv_sub hl [3, 4, 5, 0, 6] rfl)⟩
              · exfalso; omega
        · refine g_topz (y := 0) (by rw [decide_eq_false hk7]; rfl) ?_
          have hk77 : k = 7 := by omega
          subst hk77
          refine g_eq (tgt := 132) hx hb dX0_fitting_43 (by decide) (by decide) (fun hq => ?_) (fun hq => ?_)
          · refine lv_iload hx hb dX0_fitting_132 (lv_at hl 3 rfl) ?_
            have hG : gW X F1 V (Z) s _ _ := hG.drop 0 rfl rfl
            refine vx_ret ?_
            exact g_iret hx hb hr hlocks hG (by have e9 : opFitting a (v1 : Int) (y1 : Int) = (btI (fun k => decide (kHow (wkTo (aWd a) (wRk (aWd a) v1) k y1 n n) ≠ 3)) 7, a) := (by unfold opFitting; rw [if_neg (by omega), show beh (wFo (aWd a)) ((y1 : Nat) : Int).toNat (rOn (wRk (aWd a) ((v1 : Nat) : Int).toNat)) = some n from hb9]; first | done | rfl); rw [e9]; exact ⟨hle_F1, rfl, ((hS.mono hle_F1)).ex, rfl⟩) ⟨by show _ ≤ 3900; omega, by show _ ≤ 92000; omega⟩ dX0_fitting_134
          · exfalso; omega
    · refine g_xr (vx_runV (As := [.int (zI y)]) (rest := []) ⟨hx, hb, hml, hown, hts⟩ (metX0_revision_f hS hA (by omega)) (cwV 1 hts (lw_V q737 q739 qs4 q87 q740) rfl rfl rfl (by decide +kernel) ⟨Nat.le_of_ble_eq_true rfl, Nat.le_of_ble_eq_true rfl⟩) (g_preV hG (g_recv hG (hG.vo hx0) (ci := 0) rfl)) rfl rfl hl.1 rfl (lv_room (Nat.le_of_ble_eq_true rfl)) dX0_fitting_8 ⟨by show _ ≤ 3900; omega, by show _ ≤ 92000; omega⟩) hG (fun E9 ce9 q9 Fx_44 Vx_45 ws_ H locs hpx hG hce => ?_) (fun r_41 F_42 V_43 ws_ H locs hp hG => ?_)
      · obtain ⟨rfl, hle_Fx_44, hq9, rfl, rfl⟩ := hpx
        have hG : gW X Fx_44 V (Z) s H locs := hG
        refine g_catch (name := "LineRemarks$Refused") hown htab [] ⟨0, 134, 135, 21⟩ [] rfl (fun z9 hz9 => absurd hz9 List.not_mem_nil) (by decide) (by decide) (hts _ q410) (hG.1.2.1.1 _ qn498) hce ?_
        refine lv_astore_n (lv' := [(3, .ref q9), (0, .ref x), (1, .int (zI (v1 : Int))), (2, .int (zI y))]) hx hb dX0_fitting_135 rfl hl (by decide) rfl (fun ls hl => ?_)
        refine lv_aload_n hx hb dX0_fitting_136 rfl (lv_at hl 1 rfl) ?_
        refine lv_aload_n hx hb dX0_fitting_137 rfl (lv_at hl 0 rfl) ?_
        refine g_ci (va_runV (As := [.ref q9]) (rest := []) ⟨hx, hb, hml, hown, hts⟩ (metX0_refused (k := 1) (hS.mono hle_Fx_44) hA hq9 (by decide)) (cwV 1 hts (lw_V q589 q591 qs2 q87 q592) rfl rfl rfl (by decide +kernel) ⟨Nat.le_of_ble_eq_true rfl, Nat.le_of_ble_eq_true rfl⟩) (g_preV hG (g_recv hG (hG.vo hx0) (ci := 0) rfl)) rfl rfl hl.1 rfl (lv_room (Nat.le_of_ble_eq_true rfl)) dX0_fitting_138 ⟨by show _ ≤ 3900; omega, by show _ ≤ 92000; omega⟩) hG (fun r_46 F_47 V_48 ws_ H locs hp hG => ?_)
        obtain ⟨rfl, rfl, hS9, rfl⟩ := hp
        have hG : gW X Fx_44 V_48 (Z) s H locs := hG
        refine vx_ret ?_
        exact g_iret hx hb hr hlocks hG (by have e9 : opFitting a (v1 : Int) y = (zI (-((1 : Nat) : Int)), aNo a 1) := (by unfold opFitting; rw [if_pos (by omega)]; first | done | rfl); rw [e9]; exact ⟨hle_Fx_44, rfl, hS9.ex, rfl⟩) ⟨by show _ ≤ 3900; omega, by show _ ≤ 92000; omega⟩ dX0_fitting_141
      exact hp.elim
  · refine g_xr (vx_runV (As := [.int (zI v)]) (rest := []) ⟨hx, hb, hml, hown, hts⟩ (metX0_told_f hS hA (by omega)) (cwV 1 hts (lw_V q700 q702 qs3 q87 q703) rfl rfl rfl (by decide +kernel) ⟨Nat.le_of_ble_eq_true rfl, Nat.le_of_ble_eq_true rfl⟩) (g_preV hG (g_recv hG (hG.vo hx0) (ci := 0) rfl)) rfl rfl hl.1 rfl (lv_room (Nat.le_of_ble_eq_true rfl)) dX0_fitting_2 ⟨by show _ ≤ 3900; omega, by show _ ≤ 92000; omega⟩) hG (fun E9 ce9 q9 Fx_52 Vx_53 ws_ H locs hpx hG hce => ?_) (fun r_49 F_50 V_51 ws_ H locs hp hG => ?_)
    · obtain ⟨rfl, hle_Fx_52, hq9, rfl, rfl⟩ := hpx
      have hG : gW X Fx_52 V (Z) s H locs := hG
      refine g_catch (name := "LineRemarks$Refused") hown htab [] ⟨0, 134, 135, 21⟩ [] rfl (fun z9 hz9 => absurd hz9 List.not_mem_nil) (by decide) (by decide) (hts _ q410) (hG.1.2.1.1 _ qn498) hce ?_
      refine lv_astore_n (lv' := [(3, .ref q9), (0, .ref x), (1, .int (zI v)), (2, .int (zI y))]) hx hb dX0_fitting_135 rfl hl (by decide) rfl (fun ls hl => ?_)
      refine lv_aload_n hx hb dX0_fitting_136 rfl (lv_at hl 1 rfl) ?_
      refine lv_aload_n hx hb dX0_fitting_137 rfl (lv_at hl 0 rfl) ?_
      refine g_ci (va_runV (As := [.ref q9]) (rest := []) ⟨hx, hb, hml, hown, hts⟩ (metX0_refused (k := 1) (hS.mono hle_Fx_52) hA hq9 (by decide)) (cwV 1 hts (lw_V q589 q591 qs2 q87 q592) rfl rfl rfl (by decide +kernel) ⟨Nat.le_of_ble_eq_true rfl, Nat.le_of_ble_eq_true rfl⟩) (g_preV hG (g_recv hG (hG.vo hx0) (ci := 0) rfl)) rfl rfl hl.1 rfl (lv_room (Nat.le_of_ble_eq_true rfl)) dX0_fitting_138 ⟨by show _ ≤ 3900; omega, by show _ ≤ 92000; omega⟩) hG (fun r_54 F_55 V_56 ws_ H locs hp hG => ?_)
      obtain ⟨rfl, rfl, hS9, rfl⟩ := hp
      have hG : gW X Fx_52 V_56 (Z) s H locs := hG
      refine vx_ret ?_
      exact g_iret hx hb hr hlocks hG (by have e9 : opFitting a v y = (zI (-((1 : Nat) : Int)), aNo a 1) := (by unfold opFitting; rw [if_pos (by omega)]; first | done | rfl); rw [e9]; exact ⟨hle_Fx_52, rfl, hS9.ex, rfl⟩) ⟨by show _ ≤ 3900; omega, by show _ ≤ 92000; omega⟩ dX0_fitting_141
    exact hp.elim

