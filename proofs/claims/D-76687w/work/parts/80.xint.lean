set_option maxRecDepth 100000
/-! the Integers of the cache -/
theorem vb_cz (k : Nat) (h : k < 256) : vb_c k = zI ((k : Int) - 128) := by
  unfold vb_c
  rw [show Int32.ofNat k = zI (k : Int) from (zI_nat k).symm, show (128 : Int32) = zI 128 from by decide +kernel, zI_sub]
section G15
variable {p : Program} {l : Launch} {e : Env} {R : Room} {s : State} {m : MethodId} {args : Array Value} {below : List Frame} {meth : Method} {c : Code} {H : Heap} {locs : List Loc} {cells slots : Nat} {Q : State → Prop}
variable {cc : ByteArray} {pc : Nat} {ls : Array Slot} {rest : List Value} {X : gX} {F : gF} {V : gV} {ws : va_W}
theorem g_int_recv (hG : gW X F V ws s H locs) {k : Nat} (hk : k < 256) : ∃ cell : Cell, H[ga X k]? = some cell ∧ cell.vm.isStatics = false ∧ s.vm.findClass "java/lang/Integer" = some cell.cls := by
  obtain ⟨cell, h1, h2, h3, -⟩ := (hG.1.2.2.2.2.2.2.2.2.2.2.2.1.1 k hk).kept hG.2.2.2.1
  exact ⟨cell, h1, h2, h3⟩
theorem g_int_get (hx : p.tables.exec = Jvm.exec) (hb : c.code = cc) {own : String} {index : Nat} (hown : s.vm.findClass own = some m.cls) (hG : gW X F V ws s H locs) {k : Nat} (hk : k < 256) (hlink : (Cond.fieldLink own index "java/lang/Integer" "value" "I").before args s = true) (d : decode cc pc = .ok (.getfield index, 3)) {z : Int} (hz : z = (k : Int) - 128)
    (kk : W p l e R s m args below meth c H locs cells slots Q (F0 m (pc + 3) ls (.int (zI z) :: rest))) : W p l e R s m args below meth c H locs cells slots Q (F0 m pc ls (.ref (ga X k) :: rest)) :=
  va_getX (i := k) (v := fun k => .int (vb_c k)) hx hb hG.1.2.2.2.2.2.2.2.2.2.2.2.1.2 hk hG.2.2 hown hlink (fun _ h9 => h9) d (by show W p l e R s m args below meth c H locs cells slots Q (F0 m (pc + 3) ls (.int (vb_c k) :: rest)); rw [vb_cz k hk, ← hz]; exact kk)
theorem g_int_tq (hx : p.tables.exec = Jvm.exec) (hb : c.code = cc) (hG : gW X F V ws s H locs) {k : Nat} (hk : k < 256) {z : Int} (hz : z = (k : Int)) (d : decode cc pc = .ok (.aaload, 1))
    (kk : W p l e R s m args below meth c H locs cells slots Q (F0 m (pc + 1) ls (.ref (ga X k) :: rest))) : W p l e R s m args below meth c H locs cells slots Q (F0 m pc ls (.int (zI z) :: .ref (ga X 302) :: rest)) := by
  subst hz
  exact vb_tq hx hb hG.1.2.2.2.2.2.2.2.2.2.2.1 hG.2.2 (zI_in hk (by decide)) (by rw [zI_clamp (by omega)]) d kk
end G15
theorem dqR.back {f : Nat → Option Nat} {h t a : Nat} {L : List Nat} (k : dqR f h t L) (hl : L.length ≤ 15) : dqR (va_up f t (some a)) h ((t + 1) % 17) (L ++ [a]) := by
  obtain ⟨h1, h2, h3, h4⟩ := k
  refine ⟨h1, by rw [List.length_append]; show _ = (h + (L.length + 1)) % 17; omega, by rw [List.length_append]; show L.length + 1 ≤ 16; omega, fun i hi => ?_⟩
  rw [List.length_append] at hi
  have hi : i < L.length + 1 := hi
  rcases Nat.lt_or_ge i L.length with q | q
  · rw [va_up_ne _ _ (by omega), h4 i q, List.getD_eq_getElem?_getD, List.getD_eq_getElem?_getD, List.getElem?_append_left q]
  · have e : i = L.length := by omega
    subst e
    rw [h2, va_up_self, List.getD_eq_getElem?_getD, List.getElem?_append_right (Nat.le_refl _), Nat.sub_self]; rfl
theorem dqR.pop {f : Nat → Option Nat} {h t a : Nat} {L : List Nat} (k : dqR f h t (a :: L)) : f h = some a ∧ dqR (va_up f h none) ((h + 1) % 17) t L := by
  obtain ⟨h1, h2, h3, h4⟩ := k
  have h3 : L.length + 1 ≤ 16 := h3
  have h2 : t = (h + (L.length + 1)) % 17 := h2
  refine ⟨by have := h4 0 (Nat.succ_pos _); rw [Nat.add_zero, Nat.mod_eq_of_lt h1] at this; exact this, by omega, by omega, by omega, fun i hi => ?_⟩
  rw [va_up_ne _ _ (by omega), show ((h + 1) % 17 + i) % 17 = (h + (i + 1)) % 17 by omega]
  exact h4 (i + 1) (Nat.succ_lt_succ hi)
set_option maxHeartbeats 4000000 in
theorem metJ1_valueOf {l : Launch} {X : gX} {F : gF} {V : gV} {Z : va_W} {i : Nat} (hi : i < 100) : Met l yJ1_valueOf (ws_ yJ1_valueOf cJ1_valueOf 1 (some (FieldType.object "java/lang/Integer"))) ({ frames := 0, cells := 0, slots := 0, locals := 0 }) (gP X F V (Z) [.int (zI (i : Int))]) (gQr X (fun u G U ws => u = ga X (i + 128) ∧ F = G ∧ V = U ∧ Z = ws)) 0 0 (gA X) := by
  refine Met.g (by decide) (Nat.le_of_ble_eq_true rfl) ?_
  intro p e s m below meth c ls hx hb hr hts hown hlocks hml hin hG hl
  have hl : lv_has ls 1 [(0, .int (zI (i : Int)))] := hl
  refine lv_iload_n hx hb dJ1_valueOf_0 rfl (lv_at hl 0 rfl) ?_
  refine lv_bipush (v := zI (-128)) hx hb dJ1_valueOf_1 (by decide +kernel) ?_
  refine g_clt (tgt := 23) hx hb dJ1_valueOf_3 (by decide) (by omega) (fun h1 => ?_) (fun h1 => ?_)
  · exfalso; omega
  · refine lv_iload_n hx hb dJ1_valueOf_6 rfl (lv_at hl 0 rfl) ?_
    refine va_gets hx hb hG.1.2.2.2.2.2.2.2.2.1 hG.2.2 hown (hts _ q193) (fun _ h9 => h9) dJ1_valueOf_7 ?_
    refine lv_topx (zI 127) (by decide +kernel) ?_
    refine g_cgt (tgt := 23) hx hb dJ1_valueOf_10 (by decide) (by omega) (fun h2 => ?_) (fun h2 => ?_)
    · exfalso; omega
    · refine va_gets hx hb hG.1.2.2.2.2.2.2.2.2.2.1 hG.2.2 hown (hts _ q195) (fun _ h9 => h9) dJ1_valueOf_13 ?_
      refine lv_iload_n hx hb dJ1_valueOf_16 rfl (lv_at hl 0 rfl) ?_
      refine lv_sipush (v := zI 128) hx hb dJ1_valueOf_17 (by decide +kernel) ?_
      refine g_iadd hx hb dJ1_valueOf_20 ?_
      refine g_int_tq hx hb hG (k := i + 128) (by omega) (by omega) dJ1_valueOf_21 ?_
      exact g_rret hx hb hr (Or.inl ⟨_, rfl⟩) hlocks hG (⟨rfl, rfl, rfl, rfl⟩) ⟨Nat.le_of_ble_eq_true rfl, Nat.le_of_ble_eq_true rfl⟩ dJ1_valueOf_22

set_option maxHeartbeats 4000000 in
theorem metJ1_intValue {l : Launch} {X : gX} {F : gF} {V : gV} {Z : va_W} {i : Nat} (hi : i < 100) : Met l yJ1_intValue (ws_ yJ1_intValue cJ1_intValue 1 (some FieldType.int)) ({ frames := 0, cells := 0, slots := 0, locals := 0 }) (gP X F V (Z) [.ref (ga X (i + 128))]) (gQi X (fun u G U ws => u = zI (i : Int) ∧ F = G ∧ V = U ∧ Z = ws)) 0 0 (gA X) := by
  refine Met.g (by decide) (Nat.le_of_ble_eq_true rfl) ?_
  intro p e s m below meth c ls hx hb hr hts hown hlocks hml hin hG hl
  have hl : lv_has ls 1 [(0, .ref (ga X (i + 128)))] := hl
  refine lv_aload_n hx hb dJ1_intValue_0 rfl (lv_at hl 0 rfl) ?_
  refine g_int_get hx hb hown hG (k := (i + 128)) (by omega) (hts _ q206) dJ1_intValue_1 (z := (i : Int)) (by omega) ?_
  exact g_iret hx hb hr hlocks hG (⟨rfl, rfl, rfl, rfl⟩) ⟨Nat.le_of_ble_eq_true rfl, Nat.le_of_ble_eq_true rfl⟩ dJ1_intValue_4

set_option maxHeartbeats 4000000 in
theorem metJ36_addLast {l : Launch} {X : gX} {F : gF} {V : gV} {Z : va_W} {dq es h t i : Nat} {f : Nat → Option Nat} {L : List Nat} (hi : i < 100) (hdq : dqR f h t L) (hl : L.length ≤ 15) : Met l yJ36_addLast (ws_ yJ36_addLast cJ36_addLast 3 none) ({ frames := 1, cells := 0, slots := 0, locals := 21 }) (gP X F V ((dq, oB 30 [.ref es, .int (zI (h : Int)), .int (zI (t : Int))]) :: (es, aR (gT X 10) 17 f) :: Z) [.ref dq, .ref (ga X (i + 128))]) (gQv X (fun G U ws => F = G ∧ V = U ∧ ((dq, oB 30 [.ref es, .int (zI (h : Int)), .int (zI (((t + 1) % 17 : Nat) : Int))]) :: (es, aR (gT X 10) 17 (va_up f t (some (ga X (i + 128))))) :: Z) = ws)) 0 0 (gA X) := by
  refine Met.g (by decide) (Nat.le_of_ble_eq_true rfl) ?_
  intro p e s m below meth c ls hx hb hr hts hown hlocks hml hin hG hl
  have hl : lv_has ls 3 [(0, .ref dq), (1, .ref (ga X (i + 128)))] := hl
  have hh := hdq.1
  have hht := hdq.2.1
  refine lv_aload_n hx hb dJ36_addLast_0 rfl (lv_at hl 1 rfl) ?_
  refine lv_ifnonnull (tgt := 12) hx hb dJ36_addLast_1 (by decide) ?_
  refine lv_aload_n hx hb dJ36_addLast_12 rfl (lv_at hl 0 rfl) ?_
  refine g_get (ci := 30) hx hb hts in_J36 hown hG (hG.at 0 rfl) rfl 0 (Nat.le_of_ble_eq_true rfl) (hts _ q1967) (fun _ h9 => h9) rfl dJ36_addLast_13 ?_
  refine lv_astore_n (lv' := [(2, .ref es), (0, .ref dq), (1, .ref (ga X (i + 128)))]) hx hb dJ36_addLast_16 rfl hl (by decide) rfl (fun ls hl => ?_)
  refine lv_aload_n hx hb dJ36_addLast_17 rfl (lv_at hl 0 rfl) ?_
  refine lv_aload_n hx hb dJ36_addLast_18 rfl (lv_at hl 1 rfl) ?_
  refine g_get (ci := 30) hx hb hts in_J36 hown hG (hG.at 0 rfl) rfl 2 (Nat.le_of_ble_eq_true rfl) (hts _ q1971) (fun _ h9 => h9) rfl dJ36_addLast_19 ?_
  refine lv_aload_n hx hb dJ36_addLast_22 rfl (lv_at hl 2 rfl) ?_
  refine g_aast hx hb hG 1 rfl 10 rfl (g_int_recv hG (k := i + 128) (by omega)) (cast_asg (hG.1.2.1.1 _ qn3802)) cls_ex t ⟨rfl, by omega, by omega⟩ dJ36_addLast_23 (fun H locs (hG : gW X F V ((dq, oB 30 [.ref es, .int (zI (h : Int)), .int (zI (t : Int))]) :: (es, aR (gT X 10) 17 (va_up f t (some (ga X (i + 128))))) :: Z) s H locs) => ?_)
  refine lv_aload_n hx hb dJ36_addLast_24 rfl (lv_at hl 1 rfl) ?_
  refine g_get (ci := 30) hx hb hts in_J36 hown hG (hG.at 0 rfl) rfl 1 (Nat.le_of_ble_eq_true rfl) (hts _ q1970) (fun _ h9 => h9) rfl dJ36_addLast_25 ?_
  refine lv_aload_n hx hb dJ36_addLast_28 rfl (lv_at hl 1 rfl) ?_
  refine lv_aload_n hx hb dJ36_addLast_29 rfl (lv_at hl 1 rfl) ?_
  refine g_get (ci := 30) hx hb hts in_J36 hown hG (hG.at 0 rfl) rfl 2 (Nat.le_of_ble_eq_true rfl) (hts _ q1971) (fun _ h9 => h9) rfl dJ36_addLast_30 ?_
  refine lv_aload_n hx hb dJ36_addLast_33 rfl (lv_at hl 0 rfl) ?_
  refine g_alen hx hb hG 10 rfl (hG.at 1 rfl) dJ36_addLast_34 ?_
  refine g_topz (y := 17) rfl ?_
  refine g_ci (va_runS (As := [.int (zI (t : Int)), .int (zI 17)]) (rest := [.ref dq, .int (zI (h : Int))]) ⟨hx, hb, hml, hown, hts⟩ (metJ36_inc (i := t) (by omega)) (va_cwS 2 hts (lw_S q2241 q1637 q139 q1638) rfl rfl rfl (by decide +kernel) ⟨Nat.le_of_ble_eq_true rfl, Nat.le_of_ble_eq_true rfl⟩) (g_preS hG) rfl rfl hl.1 rfl (lv_room (Nat.le_of_ble_eq_true rfl)) dJ36_addLast_35 ⟨Nat.le_of_ble_eq_true rfl, Nat.le_of_ble_eq_true rfl⟩) hG (fun r_1 F_2 V_3 ws_ H locs hp hG => ?_)
  obtain ⟨rfl, rfl, rfl, rfl⟩ := hp
  have hG : gW X F V ((dq, oB 30 [.ref es, .int (zI (h : Int)), .int (zI (t : Int))]) :: (es, aR (gT X 10) 17 (va_up f t (some (ga X (i + 128))))) :: Z) s H locs := hG
  refine lv_dup_x1 hx hb dJ36_addLast_38 rfl rfl ?_
  refine g_put (ci := 30) hx hb hts in_J36 tyJ36 tyJ36_ok nmJ36 hown hG 0 rfl rfl 2 (Nat.le_of_ble_eq_true rfl) (hts _ q1971) (fun _ h9 => h9) rfl (tyJ36_ok 2 (Nat.le_of_ble_eq_true rfl)) rfl rfl (Nat.le_of_ble_eq_true rfl) dJ36_addLast_39 (fun H locs (hG : gW X F V ((dq, oB 30 [.ref es, .int (zI (h : Int)), .int (zI (((t + 1) % 17 : Nat) : Int))]) :: (es, aR (gT X 10) 17 (va_up f t (some (ga X (i + 128))))) :: Z) s H locs) => ?_)
  refine g_cne (tgt := 50) hx hb dJ36_addLast_42 (by decide) (by omega) (fun h1 => ?_) (fun h1 => ?_)
  · exact g_vret hx hb hr hlocks hG (⟨rfl, rfl, rfl⟩) ⟨Nat.le_of_ble_eq_true rfl, Nat.le_of_ble_eq_true rfl⟩ dJ36_addLast_50
  · exfalso; omega

set_option maxHeartbeats 4000000 in
theorem metJ36_elementAt {l : Launch} {X : gX} {F : gF} {V : gV} {Z : va_W} {es j : Nat} {f : Nat → Option Nat} (hj : j < 17) : Met l yJ36_elementAt (ws_ yJ36_elementAt cJ36_elementAt 2 (some (FieldType.object "java/lang/Object"))) ({ frames := 0, cells := 0, slots := 0, locals := 0 }) (gP X F V ((es, aR (gT X 10) 17 f) :: Z) [.ref es, .int (zI (j : Int))]) (gQq X (fun u G U ws => u = f j ∧ F = G ∧ V = U ∧ ((es, aR (gT X 10) 17 f) :: Z) = ws)) 0 0 (gA X) := by
  refine Met.g (by decide) (Nat.le_of_ble_eq_true rfl) ?_
  intro p e s m below meth c ls hx hb hr hts hown hlocks hml hin hG hl
  have hl : lv_has ls 2 [(0, .ref es), (1, .int (zI (j : Int)))] := hl
  refine lv_aload_n hx hb dJ36_elementAt_0 rfl (lv_at hl 0 rfl) ?_
  refine lv_iload_n hx hb dJ36_elementAt_1 rfl (lv_at hl 1 rfl) ?_
  refine g_aald hx hb hG 10 rfl rfl (hG.at 0 rfl) j ⟨rfl, by omega, by omega⟩ (v := va_rf (f j)) rfl dJ36_elementAt_2 ?_
  exact g_qret (f j) rfl hx hb hr (Or.inl ⟨_, rfl⟩) hlocks hG (⟨rfl, rfl, rfl, rfl⟩) ⟨Nat.le_of_ble_eq_true rfl, Nat.le_of_ble_eq_true rfl⟩ dJ36_elementAt_3

set_option maxHeartbeats 4000000 in
theorem metJ36_pollFirst {l : Launch} {X : gX} {F : gF} {V : gV} {Z : va_W} {dq es h t a : Nat} {f : Nat → Option Nat} {L : List Nat} (hdq : dqR f h t (a :: L)) : Met l yJ36_pollFirst (ws_ yJ36_pollFirst cJ36_pollFirst 4 (some (FieldType.object "java/lang/Object"))) ({ frames := 1, cells := 0, slots := 0, locals := 21 }) (gP X F V ((dq, oB 30 [.ref es, .int (zI (h : Int)), .int (zI (t : Int))]) :: (es, aR (gT X 10) 17 f) :: Z) [.ref dq]) (gQr X (fun u G U ws => u = a ∧ F = G ∧ V = U ∧ ((dq, oB 30 [.ref es, .int (zI (((h + 1) % 17 : Nat) : Int)), .int (zI (t : Int))]) :: (es, aR (gT X 10) 17 (va_up f h none)) :: Z) = ws)) 0 0 (gA X) := by
  refine Met.g (by decide) (Nat.le_of_ble_eq_true rfl) ?_
  intro p e s m below meth c ls hx hb hr hts hown hlocks hml hin hG hl
  have hl : lv_has ls 4 [(0, .ref dq)] := hl
  obtain ⟨hf1, hf2⟩ := hdq.pop
  have hh := hdq.1
  refine lv_aload_n hx hb dJ36_pollFirst_0 rfl (lv_at hl 0 rfl) ?_
  refine g_get (ci := 30) hx hb hts in_J36 hown hG (hG.at 0 rfl) rfl 0 (Nat.le_of_ble_eq_true rfl) (hts _ q1967) (fun _ h9 => h9) rfl dJ36_pollFirst_1 ?_
  refine lv_dup hx hb dJ36_pollFirst_4 rfl ?_
  refine lv_astore_n (lv' := [(1, .ref es), (0, .ref dq)]) hx hb dJ36_pollFirst_5 rfl hl (by decide) rfl (fun ls hl => ?_)
  refine lv_aload_n hx hb dJ36_pollFirst_6 rfl (lv_at hl 1 rfl) ?_
  refine g_get (ci := 30) hx hb hts in_J36 hown hG (hG.at 0 rfl) rfl 1 (Nat.le_of_ble_eq_true rfl) (hts _ q1970) (fun _ h9 => h9) rfl dJ36_pollFirst_7 ?_
  refine lv_dup hx hb dJ36_pollFirst_10 rfl ?_
  refine lv_istore_n (lv' := [(2, .int (zI (h : Int))), (1, .ref es), (0, .ref dq)]) hx hb dJ36_pollFirst_11 rfl hl (by decide) rfl (fun ls hl => ?_)
  have hG : gW X F V ((es, aR (gT X 10) 17 f) :: (dq, oB 30 [.ref es, .int (zI (h : Int)), .int (zI (t : Int))]) :: Z) s _ _ := hG.pull 1 rfl rfl
  refine g_cq (va_runS (As := [.ref es, .int (zI (h : Int))]) (rest := []) ⟨hx, hb, hml, hown, hts⟩ (metJ36_elementAt (j := h) hh) (va_cwS 2 hts (lw_S q2254 q2255 q139 q2256) rfl rfl rfl (by decide +kernel) ⟨Nat.le_of_ble_eq_true rfl, Nat.le_of_ble_eq_true rfl⟩) (g_preS hG) rfl rfl hl.1 rfl (lv_room (Nat.le_of_ble_eq_true rfl)) dJ36_pollFirst_12 ⟨Nat.le_of_ble_eq_true rfl, Nat.le_of_ble_eq_true rfl⟩) hG (fun r_1 F_2 V_3 ws_ H locs hp hG => ?_)
  obtain ⟨hu, rfl, rfl, rfl⟩ := hp
  have hG : gW X F V ((es, aR (gT X 10) 17 f) :: (dq, oB 30 [.ref es, .int (zI (h : Int)), .int (zI (t : Int))]) :: Z) s H locs := hG
  rw [hf1] at hu
  subst hu
  refine lv_astore_n (lv' := [(3, .ref a), (2, .int (zI (h : Int))), (1, .ref es), (0, .ref dq)]) hx hb dJ36_pollFirst_15 rfl hl (by decide) rfl (fun ls hl => ?_)
  refine lv_aload_n hx hb dJ36_pollFirst_16 rfl (lv_at hl 0 rfl) ?_
  refine lv_ifnull hx hb dJ36_pollFirst_17 ?_
  refine lv_aload_n hx hb dJ36_pollFirst_20 rfl (lv_at hl 2 rfl) ?_
  refine lv_iload_n hx hb dJ36_pollFirst_21 rfl (lv_at hl 1 rfl) ?_
  refine lv_null hx hb dJ36_pollFirst_22 ?_
  refine g_aastN hx hb hG 0 rfl 10 rfl h ⟨rfl, by omega, by omega⟩ dJ36_pollFirst_23 (fun H locs (hG : gW X F V ((es, aR (gT X 10) 17 (va_up f h none)) :: (dq, oB 30 [.ref es, .int (zI (h : Int)), .int (zI (t : Int))]) :: Z) s H locs) => ?_)
  refine lv_aload_n hx hb dJ36_pollFirst_24 rfl (lv_at hl 3 rfl) ?_
  refine lv_iload_n hx hb dJ36_pollFirst_25 rfl (lv_at hl 1 rfl) ?_
  refine lv_aload_n hx hb dJ36_pollFirst_26 rfl (lv_at hl 2 rfl) ?_
  refine g_alen hx hb hG 10 rfl (hG.at 0 rfl) dJ36_pollFirst_27 ?_
  refine g_topz (y := 17) rfl ?_
  refine g_ci (va_runS (As := [.int (zI (h : Int)), .int (zI 17)]) (rest := [.ref dq]) ⟨hx, hb, hml, hown, hts⟩ (metJ36_inc (i := h) hh) (va_cwS 2 hts (lw_S q2241 q1637 q139 q1638) rfl rfl rfl (by decide +kernel) ⟨Nat.le_of_ble_eq_true rfl, Nat.le_of_ble_eq_true rfl⟩) (g_preS hG) rfl rfl hl.1 rfl (lv_room (Nat.le_of_ble_eq_true rfl)) dJ36_pollFirst_28 ⟨Nat.le_of_ble_eq_true rfl, Nat.le_of_ble_eq_true rfl⟩) hG (fun r_4 F_5 V_6 ws_ H locs hp hG => ?_)
  obtain ⟨rfl, rfl, rfl, rfl⟩ := hp
  have hG : gW X F V ((es, aR (gT X 10) 17 (va_up f h none)) :: (dq, oB 30 [.ref es, .int (zI (h : Int)), .int (zI (t : Int))]) :: Z) s H locs := hG
  refine g_put (ci := 30) hx hb hts in_J36 tyJ36 tyJ36_ok nmJ36 hown hG 1 rfl rfl 1 (Nat.le_of_ble_eq_true rfl) (hts _ q1970) (fun _ h9 => h9) rfl (tyJ36_ok 1 (Nat.le_of_ble_eq_true rfl)) rfl rfl (Nat.le_of_ble_eq_true rfl) dJ36_pollFirst_31 (fun H locs (hG : gW X F V ((es, aR (gT X 10) 17 (va_up f h none)) :: (dq, oB 30 [.ref es, .int (zI (((h + 1) % 17 : Nat) : Int)), .int (zI (t : Int))]) :: Z) s H locs) => ?_)
  refine lv_aload_n hx hb dJ36_pollFirst_34 rfl (lv_at hl 0 rfl) ?_
  have hG : gW X F V ((dq, oB 30 [.ref es, .int (zI (((h + 1) % 17 : Nat) : Int)), .int (zI (t : Int))]) :: (es, aR (gT X 10) 17 (va_up f h none)) :: Z) s _ _ := hG.pull 1 rfl rfl
  exact g_rret hx hb hr (Or.inl ⟨_, rfl⟩) hlocks hG (⟨rfl, rfl, rfl, rfl⟩) ⟨Nat.le_of_ble_eq_true rfl, Nat.le_of_ble_eq_true rfl⟩ dJ36_pollFirst_35

set_option maxHeartbeats 4000000 in
theorem metJ36_removeFirst {l : Launch} {X : gX} {F : gF} {V : gV} {Z : va_W} {dq es h t a : Nat} {f : Nat → Option Nat} {L : List Nat} (hdq : dqR f h t (a :: L)) : Met l yJ36_removeFirst (ws_ yJ36_removeFirst cJ36_removeFirst 2 (some (FieldType.object "java/lang/Object"))) ({ frames := 2, cells := 0, slots := 0, locals := 44 }) (gP X F V ((dq, oB 30 [.ref es, .int (zI (h : Int)), .int (zI (t : Int))]) :: (es, aR (gT X 10) 17 f) :: Z) [.ref dq]) (gQr X (fun u G U ws => u = a ∧ F = G ∧ V = U ∧ ((dq, oB 30 [.ref es, .int (zI (((h + 1) % 17 : Nat) : Int)), .int (zI (t : Int))]) :: (es, aR (gT X 10) 17 (va_up f h none)) :: Z) = ws)) 0 0 (gA X) := by
  refine Met.g (by decide) (Nat.le_of_ble_eq_true rfl) ?_
  intro p e s m below meth c ls hx hb hr hts hown hlocks hml hin hG hl
  have hl : lv_has ls 2 [(0, .ref dq)] := hl
  refine lv_aload_n hx hb dJ36_removeFirst_0 rfl (lv_at hl 0 rfl) ?_
  refine g_cr (va_runV (As := []) (rest := []) ⟨hx, hb, hml, hown, hts⟩ (metJ36_pollFirst hdq) (cwV 0 hts (lw_V q2250 q2251 q2252 q139 q2253) rfl rfl rfl (by decide +kernel) ⟨Nat.le_of_ble_eq_true rfl, Nat.le_of_ble_eq_true rfl⟩) (g_preV hG (g_recv hG (hG.at 0 rfl) (ci := 30) rfl)) rfl rfl hl.1 rfl (lv_room (Nat.le_of_ble_eq_true rfl)) dJ36_removeFirst_1 ⟨Nat.le_of_ble_eq_true rfl, Nat.le_of_ble_eq_true rfl⟩) hG (fun r_1 F_2 V_3 ws_ H locs hp hG => ?_)
  obtain ⟨hu, rfl, rfl, rfl⟩ := hp
  have hG : gW X F V ((dq, oB 30 [.ref es, .int (zI (((h + 1) % 17 : Nat) : Int)), .int (zI (t : Int))]) :: (es, aR (gT X 10) 17 (va_up f h none)) :: Z) s H locs := hG
  refine lv_astore_n (lv' := [(1, .ref r_1), (0, .ref dq)]) hx hb dJ36_removeFirst_4 rfl hl (by decide) rfl (fun ls hl => ?_)
  refine lv_aload_n hx hb dJ36_removeFirst_5 rfl (lv_at hl 0 rfl) ?_
  refine lv_ifnonnull (tgt := 17) hx hb dJ36_removeFirst_6 (by decide) ?_
  refine lv_aload_n hx hb dJ36_removeFirst_17 rfl (lv_at hl 0 rfl) ?_
  exact g_rret hx hb hr (Or.inl ⟨_, rfl⟩) hlocks hG (⟨hu, rfl, rfl, rfl⟩) ⟨Nat.le_of_ble_eq_true rfl, Nat.le_of_ble_eq_true rfl⟩ dJ36_removeFirst_18

