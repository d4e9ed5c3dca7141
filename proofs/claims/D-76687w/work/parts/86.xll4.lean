set_option maxRecDepth 100000
theorem gW_xt {X : gX} {F : gF} {V : gV} {ws : va_W} {s : State} {H : Heap} {locs : List Loc} (hG : gW X F V ws s H locs) : gXt X s := hG.1.2.2.2.2.2.2.2.2.2.2.2.2.2.2.2
theorem zI_c16 {z : Int} (h : 0 ≤ z ∧ z < 65536) : ((zI z).toUInt32 % 65536).toInt32 = zI z := by
  obtain ⟨n, rfl⟩ : ∃ n : Nat, z = n := ⟨z.toNat, by omega⟩
  refine zI_ofN ?_ (by omega)
  rw [UInt32.toBitVec_toInt32, UInt32.toBitVec_mod, show (zI (n : Int)).toUInt32.toBitVec = (zI (n : Int)).toBitVec from rfl, BitVec.toNat_umod, zI_bv n (by omega)]
  show n % 65536 = n
  exact Nat.mod_eq_of_lt (by omega)
theorem g_ceqs {p : Program} {l : Launch} {e : Env} {R : Room} {s : State} {m : MethodId} {args : Array Value} {below : List Frame} {meth : Method} {c : Code} {H : Heap} {locs : List Loc} {cells slots : Nat} {Q : State → Prop} {cc : ByteArray} {pc : Nat} {ls : Array Slot} {rest : List Value} (hx : p.tables.exec = Jvm.exec) (hb : c.code = cc) {x : Int} {off : Int} {tgt : Nat} (d : decode cc pc = .ok (.if_icmp .eq off, 3)) (ht : (pc : Int) + off = (tgt : Int))
    (kt : x = x → W p l e R s m args below meth c H locs cells slots Q (F0 m tgt ls rest)) (kf : x ≠ x → W p l e R s m args below meth c H locs cells slots Q (F0 m (pc + 3) ls rest)) : W p l e R s m args below meth c H locs cells slots Q (F0 m pc ls (.int (zI x) :: .int (zI x) :: rest)) :=
  lv_icmp_eq hx hb d ht (fun _ => kt rfl) (fun h => absurd rfl h)
def ndO (N : List Nd) (j : Nat) : Option Nat := if j < N.length then some (nA N j) else none
theorem ndO_pos {N : List Nd} {j : Nat} (h : j < N.length) : ndO N j = some (nA N j) := if_pos h
set_option maxHeartbeats 4000000 in
theorem metJ34_init {l : Launch} {X : gX} {F : gF} {V : gV} {Z : va_W} {it ll B : Nat} {mo : Int} {N : List Nd} (hN : llN V B N) (h24 : N.length ≤ 1000) : Met l yJ34_init (ws_ yJ34_init cJ34_init 3 none) ({ frames := 1, cells := 0, slots := 0, locals := 23 }) (gP X F V ((it, oB 29 [.null, .null, .int (zI 0), .int (zI 0), .null]) :: (ll, oB 27 [.int (zI mo), .int (zI (N.length : Int)), va_rf (hdO N), va_rf (tlO N)]) :: Z) [.ref it, .ref ll, .int (zI 0)]) (gQv X (fun G U ws => F = G ∧ V = U ∧ ((it, oB 29 [.null, va_rf (hdO N), .int (zI 0), .int (zI mo), .ref ll]) :: (ll, oB 27 [.int (zI mo), .int (zI (N.length : Int)), va_rf (hdO N), va_rf (tlO N)]) :: Z) = ws)) 0 0 (gA X) := by
  refine Met.g (by decide) (Nat.le_of_ble_eq_true rfl) ?_
  intro p e s m below meth c ls hx hb hr hts hown hlocks hml hin hG hl
  have hl : lv_has ls 3 [(0, .ref it), (1, .ref ll), (2, .int (zI 0))] := hl
  refine lv_aload_n hx hb dJ34_init_0 rfl (lv_at hl 0 rfl) ?_
  refine lv_aload_n hx hb dJ34_init_1 rfl (lv_at hl 1 rfl) ?_
  refine g_putF (ci := 29) hx hb hts in_J34 tyJ34 tyJ34_ok nmJ34 hown hin hG 0 rfl rfl 4 (Nat.le_of_ble_eq_true rfl) (hts _ q1427) (fun _ h9 => h9) rfl rfl (tyJ34_ok 4 (Nat.le_of_ble_eq_true rfl)) rfl rfl (Nat.le_of_ble_eq_true rfl) dJ34_init_2 (fun H locs (hG : gW X F V ((it, oB 29 [.null, .null, .int (zI 0), .int (zI 0), .ref ll]) :: (ll, oB 27 [.int (zI mo), .int (zI (N.length : Int)), va_rf (hdO N), va_rf (tlO N)]) :: Z) s H locs) => ?_)
  refine lv_aload_n hx hb dJ34_init_5 rfl (lv_at hl 0 rfl) ?_
  refine W.objInit hx hb hown (hts _ q1421) (hts _ q170) (hts _ q171) rfl (by rw [hml]; exact hl.1) rfl dJ34_init_6 (Nat.le_of_ble_eq_true rfl) (Nat.le_of_ble_eq_true rfl) ?_
  refine W.eq (g2 := F0 m 9 ls []) rfl ?_
  refine lv_aload_n hx hb dJ34_init_9 rfl (lv_at hl 0 rfl) ?_
  refine lv_aload_n hx hb dJ34_init_10 rfl (lv_at hl 0 rfl) ?_
  refine g_get (ci := 29) hx hb hts in_J34 hown hG (hG.at 0 rfl) rfl 4 (Nat.le_of_ble_eq_true rfl) (hts _ q1427) (fun _ h9 => h9) rfl dJ34_init_11 ?_
  refine g_get (ci := 27) hx hb hts in_J41 hown hG (hG.at 1 rfl) rfl 0 (Nat.le_of_ble_eq_true rfl) (hts _ q767) (u_same (hts _ q768)) rfl dJ34_init_14 ?_
  refine g_put (ci := 29) hx hb hts in_J34 tyJ34 tyJ34_ok nmJ34 hown hG 0 rfl rfl 3 (Nat.le_of_ble_eq_true rfl) (hts _ q1426) (fun _ h9 => h9) rfl (tyJ34_ok 3 (Nat.le_of_ble_eq_true rfl)) rfl rfl (Nat.le_of_ble_eq_true rfl) dJ34_init_17 (fun H locs (hG : gW X F V ((it, oB 29 [.null, .null, .int (zI 0), .int (zI mo), .ref ll]) :: (ll, oB 27 [.int (zI mo), .int (zI (N.length : Int)), va_rf (hdO N), va_rf (tlO N)]) :: Z) s H locs) => ?_)
  refine lv_aload_n hx hb dJ34_init_20 rfl (lv_at hl 0 rfl) ?_
  refine lv_iload_n hx hb dJ34_init_21 rfl (lv_at hl 2 rfl) ?_
  refine lv_aload_n hx hb dJ34_init_22 rfl (lv_at hl 1 rfl) ?_
  refine g_get (ci := 27) hx hb hts in_J41 hown hG (hG.at 1 rfl) rfl 1 (Nat.le_of_ble_eq_true rfl) (hts _ q2508) (fun _ h9 => h9) rfl dJ34_init_23 ?_
  refine g_cne (tgt := 33) hx hb dJ34_init_26 (by decide) (by omega) (fun h1 => ?_) (fun h1 => ?_)
  · have e0 : hdO N = some (nA N 0) := if_pos (by omega)
    refine lv_aload_n hx hb dJ34_init_33 rfl (lv_at hl 1 rfl) ?_
    refine lv_iload_n hx hb dJ34_init_34 rfl (lv_at hl 2 rfl) ?_
    refine g_topz (y := ((0 : Nat) : Int)) rfl ?_
    have hG : gW X F V ((ll, oB 27 [.int (zI mo), .int (zI (N.length : Int)), va_rf (hdO N), va_rf (tlO N)]) :: (it, oB 29 [.null, .null, .int (zI 0), .int (zI mo), .ref ll]) :: Z) s _ _ := hG.pull 1 rfl rfl
    refine g_cr (va_runV (As := [.int (zI ((0 : Nat) : Int))]) (rest := [.ref it]) ⟨hx, hb, hml, hown, hts⟩ (metJ41_node (i := 0) hN h24 (by omega)) (cwV 1 hts (lw_V q1422 q1242 q1243 q156 q1244) rfl rfl rfl (by decide +kernel) ⟨Nat.le_of_ble_eq_true rfl, Nat.le_of_ble_eq_true rfl⟩) (g_preV hG (g_recv hG (hG.at 0 rfl) (ci := 27) rfl)) rfl rfl hl.1 rfl (lv_room (Nat.le_of_ble_eq_true rfl)) dJ34_init_35 ⟨Nat.le_of_ble_eq_true rfl, Nat.le_of_ble_eq_true rfl⟩) hG (fun r_1 F_2 V_3 ws_ H locs hp hG => ?_)
    obtain ⟨rfl, rfl, rfl, rfl⟩ := hp
    have hG : gW X F V ((ll, oB 27 [.int (zI mo), .int (zI (N.length : Int)), va_rf (hdO N), va_rf (tlO N)]) :: (it, oB 29 [.null, .null, .int (zI 0), .int (zI mo), .ref ll]) :: Z) s H locs := hG
    refine g_put (ci := 29) hx hb hts in_J34 tyJ34 tyJ34_ok nmJ34 hown hG 1 rfl rfl 1 (Nat.le_of_ble_eq_true rfl) (hts _ q1424) (fun _ h9 => h9) rfl (tyJ34_ok 1 (Nat.le_of_ble_eq_true rfl)) rfl rfl (Nat.le_of_ble_eq_true rfl) dJ34_init_38 (fun H locs (hG : gW X F V ((ll, oB 27 [.int (zI mo), .int (zI (N.length : Int)), va_rf (hdO N), va_rf (tlO N)]) :: (it, oB 29 [.null, .ref (nA N 0), .int (zI 0), .int (zI mo), .ref ll]) :: Z) s H locs) => ?_)
    refine lv_aload_n hx hb dJ34_init_41 rfl (lv_at hl 0 rfl) ?_
    refine lv_iload_n hx hb dJ34_init_42 rfl (lv_at hl 2 rfl) ?_
    refine g_put (ci := 29) hx hb hts in_J34 tyJ34 tyJ34_ok nmJ34 hown hG 1 rfl rfl 2 (Nat.le_of_ble_eq_true rfl) (hts _ q1425) (fun _ h9 => h9) rfl (tyJ34_ok 2 (Nat.le_of_ble_eq_true rfl)) rfl rfl (Nat.le_of_ble_eq_true rfl) dJ34_init_43 (fun H locs (hG : gW X F V ((ll, oB 27 [.int (zI mo), .int (zI (N.length : Int)), va_rf (hdO N), va_rf (tlO N)]) :: (it, oB 29 [.null, .ref (nA N 0), .int (zI 0), .int (zI mo), .ref ll]) :: Z) s H locs) => ?_)
    have hG : gW X F V ((it, oB 29 [.null, .ref (nA N 0), .int (zI 0), .int (zI mo), .ref ll]) :: (ll, oB 27 [.int (zI mo), .int (zI (N.length : Int)), va_rf (hdO N), va_rf (tlO N)]) :: Z) s _ _ := hG.pull 1 rfl rfl
    exact g_vret hx hb hr hlocks hG (⟨rfl, rfl, by rw [e0]; rfl⟩) ⟨Nat.le_of_ble_eq_true rfl, Nat.le_of_ble_eq_true rfl⟩ dJ34_init_46
  · have e0 : hdO N = none := if_neg (by omega)
    refine lv_null hx hb dJ34_init_29 ?_
    refine lv_goto (tgt := 38) hx hb dJ34_init_30 (by decide) ?_
    refine g_put (ci := 29) hx hb hts in_J34 tyJ34 tyJ34_ok nmJ34 hown hG 0 rfl rfl 1 (Nat.le_of_ble_eq_true rfl) (hts _ q1424) (fun _ h9 => h9) rfl (tyJ34_ok 1 (Nat.le_of_ble_eq_true rfl)) rfl rfl (Nat.le_of_ble_eq_true rfl) dJ34_init_38 (fun H locs (hG : gW X F V ((it, oB 29 [.null, .null, .int (zI 0), .int (zI mo), .ref ll]) :: (ll, oB 27 [.int (zI mo), .int (zI (N.length : Int)), va_rf (hdO N), va_rf (tlO N)]) :: Z) s H locs) => ?_)
    refine lv_aload_n hx hb dJ34_init_41 rfl (lv_at hl 0 rfl) ?_
    refine lv_iload_n hx hb dJ34_init_42 rfl (lv_at hl 2 rfl) ?_
    refine g_put (ci := 29) hx hb hts in_J34 tyJ34 tyJ34_ok nmJ34 hown hG 0 rfl rfl 2 (Nat.le_of_ble_eq_true rfl) (hts _ q1425) (fun _ h9 => h9) rfl (tyJ34_ok 2 (Nat.le_of_ble_eq_true rfl)) rfl rfl (Nat.le_of_ble_eq_true rfl) dJ34_init_43 (fun H locs (hG : gW X F V ((it, oB 29 [.null, .null, .int (zI 0), .int (zI mo), .ref ll]) :: (ll, oB 27 [.int (zI mo), .int (zI (N.length : Int)), va_rf (hdO N), va_rf (tlO N)]) :: Z) s H locs) => ?_)
    exact g_vret hx hb hr hlocks hG (⟨rfl, rfl, by rw [e0]; rfl⟩) ⟨Nat.le_of_ble_eq_true rfl, Nat.le_of_ble_eq_true rfl⟩ dJ34_init_46

set_option maxHeartbeats 4000000 in
theorem metJ41_listIterator {l : Launch} {X : gX} {F : gF} {V : gV} {Z : va_W} {ll B : Nat} {mo : Int} {N : List Nd} (hN : llN V B N) (h24 : N.length ≤ 1000) : Met l yJ41_listIterator (ws_ yJ41_listIterator cJ41_listIterator 2 (some (FieldType.object "java/util/ListIterator"))) ({ frames := 2, cells := 1, slots := 5, locals := 45 }) (gP X F V ((ll, oB 27 [.int (zI mo), .int (zI (N.length : Int)), va_rf (hdO N), va_rf (tlO N)]) :: Z) [.ref ll, .int (zI 0)]) (gQr X (fun it G U ws => F = G ∧ V = U ∧ ((it, oB 29 [.null, va_rf (hdO N), .int (zI 0), .int (zI mo), .ref ll]) :: (ll, oB 27 [.int (zI mo), .int (zI (N.length : Int)), va_rf (hdO N), va_rf (tlO N)]) :: Z) = ws)) 1 5 (gA X) := by
  refine Met.g (by decide) (Nat.le_of_ble_eq_true rfl) ?_
  intro p e s m below meth c ls hx hb hr hts hown hlocks hml hin hG hl
  have hl : lv_has ls 2 [(0, .ref ll), (1, .int (zI 0))] := hl
  refine lv_aload_n hx hb dJ41_listIterator_0 rfl (lv_at hl 0 rfl) ?_
  refine lv_iload_n hx hb dJ41_listIterator_1 rfl (lv_at hl 1 rfl) ?_
  refine g_topz (y := ((0 : Nat) : Int)) rfl ?_
  refine g_cv (va_runV (As := [.int (zI ((0 : Nat) : Int))]) (rest := []) ⟨hx, hb, hml, hown, hts⟩ (metJ41_checkPositionIndex (i := 0) h24 (Nat.zero_le _)) (cwV 1 hts (lw_V q1194 q1196 qs14 q156 q1198) rfl rfl rfl (by decide +kernel) ⟨Nat.le_of_ble_eq_true rfl, Nat.le_of_ble_eq_true rfl⟩) (g_preV hG (g_recv hG (hG.at 0 rfl) (ci := 27) rfl)) rfl rfl hl.1 rfl (lv_room (Nat.le_of_ble_eq_true rfl)) dJ41_listIterator_2 ⟨Nat.le_of_ble_eq_true rfl, Nat.le_of_ble_eq_true rfl⟩) hG (fun F_2 V_3 ws_ H locs hp hG => ?_)
  obtain ⟨rfl, rfl, rfl⟩ := hp
  have hG : gW X F V ((ll, oB 27 [.int (zI mo), .int (zI (N.length : Int)), va_rf (hdO N), va_rf (tlO N)]) :: Z) s H locs := hG
  refine g_new (ci := 29) hx hb hts in_J34 tyJ34 tyJ34_ok hown (hts _ q1416) (hts _ q1417) (hts _ q137) hG rfl (fs := [.null, .null, .int (zI 0), .int (zI 0), .null]) rfl ⟨Nat.le_of_ble_eq_true rfl, Nat.le_of_ble_eq_true rfl⟩ dJ41_listIterator_5 (fun it H (hG : gW X F V ((it, oB 29 [.null, .null, .int (zI 0), .int (zI 0), .null]) :: (ll, oB 27 [.int (zI mo), .int (zI (N.length : Int)), va_rf (hdO N), va_rf (tlO N)]) :: Z) s H _) => ?_)
  refine lv_dup hx hb dJ41_listIterator_8 rfl ?_
  refine lv_aload_n hx hb dJ41_listIterator_9 rfl (lv_at hl 0 rfl) ?_
  refine lv_iload_n hx hb dJ41_listIterator_10 rfl (lv_at hl 1 rfl) ?_
  refine g_cv (va_runI (As := [.ref ll, .int (zI 0)]) (rest := [.ref it]) ⟨hx, hb, hml, hown, hts⟩ (metJ34_init hN h24) (cwI 2 hts (lw_meth q1420) rfl rfl rfl (hts _ q137) (hts _ q1418) (hts _ q1419) rfl (by decide +kernel) ⟨Nat.le_of_ble_eq_true rfl, Nat.le_of_ble_eq_true rfl⟩) (g_preS hG) rfl rfl hl.1 rfl (lv_room (Nat.le_of_ble_eq_true rfl)) dJ41_listIterator_11 ⟨Nat.le_of_ble_eq_true rfl, Nat.le_of_ble_eq_true rfl⟩) hG (fun F_5 V_6 ws_ H locs hp hG => ?_)
  obtain ⟨rfl, rfl, rfl⟩ := hp
  have hG : gW X F V ((it, oB 29 [.null, va_rf (hdO N), .int (zI 0), .int (zI mo), .ref ll]) :: (ll, oB 27 [.int (zI mo), .int (zI (N.length : Int)), va_rf (hdO N), va_rf (tlO N)]) :: Z) s H locs := hG
  exact g_rret hx hb hr (Or.inl ⟨_, rfl⟩) hlocks hG (⟨rfl, rfl, rfl⟩) ⟨Nat.le_of_ble_eq_true rfl, Nat.le_of_ble_eq_true rfl⟩ dJ41_listIterator_14

set_option maxHeartbeats 4000000 in
theorem metJ18_listIterator {l : Launch} {X : gX} {F : gF} {V : gV} {Z : va_W} {ll B : Nat} {mo : Int} {N : List Nd} (hN : llN V B N) (h24 : N.length ≤ 1000) : Met l yJ18_listIterator (ws_ yJ18_listIterator cJ18_listIterator 1 (some (FieldType.object "java/util/ListIterator"))) ({ frames := 3, cells := 1, slots := 5, locals := 66 }) (gP X F V ((ll, oB 27 [.int (zI mo), .int (zI (N.length : Int)), va_rf (hdO N), va_rf (tlO N)]) :: Z) [.ref ll]) (gQr X (fun it G U ws => F = G ∧ V = U ∧ ((it, oB 29 [.null, va_rf (hdO N), .int (zI 0), .int (zI mo), .ref ll]) :: (ll, oB 27 [.int (zI mo), .int (zI (N.length : Int)), va_rf (hdO N), va_rf (tlO N)]) :: Z) = ws)) 1 5 (gA X) := by
  refine Met.g (by decide) (Nat.le_of_ble_eq_true rfl) ?_
  intro p e s m below meth c ls hx hb hr hts hown hlocks hml hin hG hl
  have hl : lv_has ls 1 [(0, .ref ll)] := hl
  refine lv_aload_n hx hb dJ18_listIterator_0 rfl (lv_at hl 0 rfl) ?_
  refine lv_iconst (v := zI 0) hx hb dJ18_listIterator_1 (by decide +kernel) ?_
  refine g_cr (va_runU (C := "java/util/LinkedList") (As := [.int (zI 0)]) (rest := []) ⟨hx, hb, hml, hown, hts⟩ (metJ41_listIterator hN h24) (va_cwO 1 hts (lw_O q1392 q1394 q1393 q1413 q1414 q156 q1415) rfl rfl rfl q1439 (by decide +kernel) ⟨Nat.le_of_ble_eq_true rfl, Nat.le_of_ble_eq_true rfl⟩) (g_preV hG (g_recv hG (hG.at 0 rfl) (ci := 27) rfl)) rfl rfl hl.1 rfl (lv_room (Nat.le_of_ble_eq_true rfl)) dJ18_listIterator_2 ⟨Nat.le_of_ble_eq_true rfl, Nat.le_of_ble_eq_true rfl⟩) hG (fun it F_1 V_2 ws_ H locs hp hG => ?_)
  obtain ⟨rfl, rfl, rfl⟩ := hp
  have hG : gW X F V ((it, oB 29 [.null, va_rf (hdO N), .int (zI 0), .int (zI mo), .ref ll]) :: (ll, oB 27 [.int (zI mo), .int (zI (N.length : Int)), va_rf (hdO N), va_rf (tlO N)]) :: Z) s H locs := hG
  exact g_rret hx hb hr (Or.inl ⟨_, rfl⟩) hlocks hG (⟨rfl, rfl, rfl⟩) ⟨Nat.le_of_ble_eq_true rfl, Nat.le_of_ble_eq_true rfl⟩ dJ18_listIterator_5

set_option maxHeartbeats 4000000 in
theorem metJ40_iterator {l : Launch} {X : gX} {F : gF} {V : gV} {Z : va_W} {ll B : Nat} {mo : Int} {N : List Nd} (hN : llN V B N) (h24 : N.length ≤ 1000) : Met l yJ40_iterator (ws_ yJ40_iterator cJ40_iterator 1 (some (FieldType.object "java/util/Iterator"))) ({ frames := 4, cells := 1, slots := 5, locals := 86 }) (gP X F V ((ll, oB 27 [.int (zI mo), .int (zI (N.length : Int)), va_rf (hdO N), va_rf (tlO N)]) :: Z) [.ref ll]) (gQr X (fun it G U ws => F = G ∧ V = U ∧ ((it, oB 29 [.null, va_rf (hdO N), .int (zI 0), .int (zI mo), .ref ll]) :: (ll, oB 27 [.int (zI mo), .int (zI (N.length : Int)), va_rf (hdO N), va_rf (tlO N)]) :: Z) = ws)) 1 5 (gA X) := by
  refine Met.g (by decide) (Nat.le_of_ble_eq_true rfl) ?_
  intro p e s m below meth c ls hx hb hr hts hown hlocks hml hin hG hl
  have hl : lv_has ls 1 [(0, .ref ll)] := hl
  refine lv_aload_n hx hb dJ40_iterator_0 rfl (lv_at hl 0 rfl) ?_
  refine g_cr (va_runU (C := "java/util/LinkedList") (As := []) (rest := []) ⟨hx, hb, hml, hown, hts⟩ (metJ18_listIterator hN h24) (va_cwU 0 hts (lw_U q1386 q1387 q1389 q1390 q119 q1391) rfl rfl rfl rfl (by decide +kernel) ⟨Nat.le_of_ble_eq_true rfl, Nat.le_of_ble_eq_true rfl⟩) (g_preV hG (g_recv hG (hG.at 0 rfl) (ci := 27) rfl)) rfl rfl hl.1 rfl (lv_room (Nat.le_of_ble_eq_true rfl)) dJ40_iterator_1 ⟨Nat.le_of_ble_eq_true rfl, Nat.le_of_ble_eq_true rfl⟩) hG (fun it F_1 V_2 ws_ H locs hp hG => ?_)
  obtain ⟨rfl, rfl, rfl⟩ := hp
  have hG : gW X F V ((it, oB 29 [.null, va_rf (hdO N), .int (zI 0), .int (zI mo), .ref ll]) :: (ll, oB 27 [.int (zI mo), .int (zI (N.length : Int)), va_rf (hdO N), va_rf (tlO N)]) :: Z) s H locs := hG
  exact g_rret hx hb hr (Or.inl ⟨_, rfl⟩) hlocks hG (⟨rfl, rfl, rfl⟩) ⟨Nat.le_of_ble_eq_true rfl, Nat.le_of_ble_eq_true rfl⟩ dJ40_iterator_4

set_option maxHeartbeats 4000000 in
theorem metJ34_hasNext {l : Launch} {X : gX} {F : gF} {V : gV} {Z : va_W} {it ll j : Nat} {mo : Int} {v1 v2 : Value} {N : List Nd} (h24 : N.length ≤ 1000) (hj : j ≤ N.length) : Met l yJ34_hasNext (ws_ yJ34_hasNext cJ34_hasNext 1 (some FieldType.boolean)) ({ frames := 0, cells := 0, slots := 0, locals := 0 }) (gP X F V ((it, oB 29 [v1, v2, .int (zI (j : Int)), .int (zI mo), .ref ll]) :: (ll, oB 27 [.int (zI mo), .int (zI (N.length : Int)), va_rf (hdO N), va_rf (tlO N)]) :: Z) [.ref it]) (gQi X (fun u G U ws => u = zI (bI (decide (j < N.length))) ∧ F = G ∧ V = U ∧ ((it, oB 29 [v1, v2, .int (zI (j : Int)), .int (zI mo), .ref ll]) :: (ll, oB 27 [.int (zI mo), .int (zI (N.length : Int)), va_rf (hdO N), va_rf (tlO N)]) :: Z) = ws)) 0 0 (gA X) := by
  refine Met.g (by decide) (Nat.le_of_ble_eq_true rfl) ?_
  intro p e s m below meth c ls hx hb hr hts hown hlocks hml hin hG hl
  have hl : lv_has ls 1 [(0, .ref it)] := hl
  refine lv_aload_n hx hb dJ34_hasNext_0 rfl (lv_at hl 0 rfl) ?_
  refine g_get (ci := 29) hx hb hts in_J34 hown hG (hG.at 0 rfl) rfl 2 (Nat.le_of_ble_eq_true rfl) (hts _ q1425) (fun _ h9 => h9) rfl dJ34_hasNext_1 ?_
  refine lv_aload_n hx hb dJ34_hasNext_4 rfl (lv_at hl 0 rfl) ?_
  refine g_get (ci := 29) hx hb hts in_J34 hown hG (hG.at 0 rfl) rfl 4 (Nat.le_of_ble_eq_true rfl) (hts _ q1427) (fun _ h9 => h9) rfl dJ34_hasNext_5 ?_
  refine g_get (ci := 27) hx hb hts in_J41 hown hG (hG.at 1 rfl) rfl 1 (Nat.le_of_ble_eq_true rfl) (hts _ q2508) (fun _ h9 => h9) rfl dJ34_hasNext_8 ?_
  refine g_cge (tgt := 18) hx hb dJ34_hasNext_11 (by decide) (by omega) (fun h1 => ?_) (fun h1 => ?_)
  · refine lv_iconst (v := zI 0) hx hb dJ34_hasNext_18 (by decide +kernel) ?_
    exact g_zret hx hb hr hlocks rfl hG (⟨by rw [decide_eq_false (by omega)]; rfl, rfl, rfl, rfl⟩) ⟨Nat.le_of_ble_eq_true rfl, Nat.le_of_ble_eq_true rfl⟩ dJ34_hasNext_19
  · refine lv_iconst (v := zI 1) hx hb dJ34_hasNext_14 (by decide +kernel) ?_
    refine lv_goto (tgt := 19) hx hb dJ34_hasNext_15 (by decide) ?_
    exact g_zret hx hb hr hlocks rfl hG (⟨by rw [decide_eq_true (by omega)]; rfl, rfl, rfl, rfl⟩) ⟨Nat.le_of_ble_eq_true rfl, Nat.le_of_ble_eq_true rfl⟩ dJ34_hasNext_19

set_option maxHeartbeats 4000000 in
theorem metJ34_checkForComodification {l : Launch} {X : gX} {F : gF} {V : gV} {Z : va_W} {it ll : Nat} {mo j : Int} {N : List Nd} {v1 v2 : Value} : Met l yJ34_checkForComodification (ws_ yJ34_checkForComodification cJ34_checkForComodification 1 none) ({ frames := 0, cells := 0, slots := 0, locals := 0 }) (gP X F V ((it, oB 29 [v1, v2, .int (zI j), .int (zI mo), .ref ll]) :: (ll, oB 27 [.int (zI mo), .int (zI (N.length : Int)), va_rf (hdO N), va_rf (tlO N)]) :: Z) [.ref it]) (gQv X (fun G U ws => F = G ∧ V = U ∧ ((it, oB 29 [v1, v2, .int (zI j), .int (zI mo), .ref ll]) :: (ll, oB 27 [.int (zI mo), .int (zI (N.length : Int)), va_rf (hdO N), va_rf (tlO N)]) :: Z) = ws)) 0 0 (gA X) := by
  refine Met.g (by decide) (Nat.le_of_ble_eq_true rfl) ?_
  intro p e s m below meth c ls hx hb hr hts hown hlocks hml hin hG hl
  have hl : lv_has ls 1 [(0, .ref it)] := hl
  refine lv_aload_n hx hb dJ34_checkForComodification_0 rfl (lv_at hl 0 rfl) ?_
  refine g_get (ci := 29) hx hb hts in_J34 hown hG (hG.at 0 rfl) rfl 4 (Nat.le_of_ble_eq_true rfl) (hts _ q1427) (fun _ h9 => h9) rfl dJ34_checkForComodification_1 ?_
  refine g_get (ci := 27) hx hb hts in_J41 hown hG (hG.at 1 rfl) rfl 0 (Nat.le_of_ble_eq_true rfl) (hts _ q767) (u_same (hts _ q768)) rfl dJ34_checkForComodification_4 ?_
  refine lv_aload_n hx hb dJ34_checkForComodification_7 rfl (lv_at hl 0 rfl) ?_
  refine g_get (ci := 29) hx hb hts in_J34 hown hG (hG.at 0 rfl) rfl 3 (Nat.le_of_ble_eq_true rfl) (hts _ q1426) (fun _ h9 => h9) rfl dJ34_checkForComodification_8 ?_
  refine g_ceqs (tgt := 22) hx hb dJ34_checkForComodification_11 (by decide) (fun h1 => ?_) (fun h1 => ?_)
  · exact g_vret hx hb hr hlocks hG (⟨rfl, rfl, rfl⟩) ⟨Nat.le_of_ble_eq_true rfl, Nat.le_of_ble_eq_true rfl⟩ dJ34_checkForComodification_22
  · exact absurd rfl h1

set_option maxHeartbeats 4000000 in
theorem metJ34_next {l : Launch} {X : gX} {F : gF} {V : gV} {Z : va_W} {it j ll B : Nat} {mo : Int} {v1 : Value} {N : List Nd} (hN : llN V B N) (h24 : N.length ≤ 1000) (hj : j < N.length) : Met l yJ34_next (ws_ yJ34_next cJ34_next 1 (some (FieldType.object "java/lang/Object"))) ({ frames := 1, cells := 0, slots := 0, locals := 20 }) (gP X F V ((it, oB 29 [v1, va_rf (ndO N j), .int (zI (j : Int)), .int (zI mo), .ref ll]) :: (ll, oB 27 [.int (zI mo), .int (zI (N.length : Int)), va_rf (hdO N), va_rf (tlO N)]) :: Z) [.ref it]) (gQr X (fun u G U ws => u = nT N j ∧ F = G ∧ V = U ∧ ((it, oB 29 [.ref (nA N j), va_rf (ndO N (j + 1)), .int (zI ((j + 1 : Nat) : Int)), .int (zI mo), .ref ll]) :: (ll, oB 27 [.int (zI mo), .int (zI (N.length : Int)), va_rf (hdO N), va_rf (tlO N)]) :: Z) = ws)) 0 0 (gA X) := by
  refine Met.g (by decide) (Nat.le_of_ble_eq_true rfl) ?_
  intro p e s m below meth c ls hx hb hr hts hown hlocks hml hin hG hl
  have hl : lv_has ls 1 [(0, .ref it)] := hl
  refine lv_aload_n hx hb dJ34_next_0 rfl (lv_at hl 0 rfl) ?_
  refine g_cv (va_runV (As := []) (rest := []) ⟨hx, hb, hml, hown, hts⟩ (metJ34_checkForComodification) (cwV 0 hts (lw_V q1705 q1706 q1707 q137 q1708) rfl rfl rfl (by decide +kernel) ⟨Nat.le_of_ble_eq_true rfl, Nat.le_of_ble_eq_true rfl⟩) (g_preV hG (g_recv hG (hG.at 0 rfl) (ci := 29) rfl)) rfl rfl hl.1 rfl (lv_room (Nat.le_of_ble_eq_true rfl)) dJ34_next_1 ⟨Nat.le_of_ble_eq_true rfl, Nat.le_of_ble_eq_true rfl⟩) hG (fun F_2 V_3 ws_ H locs hp hG => ?_)
  obtain ⟨rfl, rfl, rfl⟩ := hp
  have hG : gW X F V ((it, oB 29 [v1, va_rf (ndO N j), .int (zI (j : Int)), .int (zI mo), .ref ll]) :: (ll, oB 27 [.int (zI mo), .int (zI (N.length : Int)), va_rf (hdO N), va_rf (tlO N)]) :: Z) s H locs := hG
  refine lv_aload_n hx hb dJ34_next_4 rfl (lv_at hl 0 rfl) ?_
  refine g_ci (va_runV (As := []) (rest := []) ⟨hx, hb, hml, hown, hts⟩ (metJ34_hasNext (j := j) h24 (by omega)) (cwV 0 hts (lw_V q1709 q1509 q3762 q137 q1511) rfl rfl rfl (by decide +kernel) ⟨Nat.le_of_ble_eq_true rfl, Nat.le_of_ble_eq_true rfl⟩) (g_preV hG (g_recv hG (hG.at 0 rfl) (ci := 29) rfl)) rfl rfl hl.1 rfl (lv_room (Nat.le_of_ble_eq_true rfl)) dJ34_next_5 ⟨Nat.le_of_ble_eq_true rfl, Nat.le_of_ble_eq_true rfl⟩) hG (fun r_4 F_5 V_6 ws_ H locs hp hG => ?_)
  obtain ⟨rfl, rfl, rfl, rfl⟩ := hp
  have hG : gW X F V ((it, oB 29 [v1, va_rf (ndO N j), .int (zI (j : Int)), .int (zI mo), .ref ll]) :: (ll, oB 27 [.int (zI mo), .int (zI (N.length : Int)), va_rf (hdO N), va_rf (tlO N)]) :: Z) s H locs := hG
  refine g_topz (y := 1) (by rw [decide_eq_true hj]; rfl) ?_
  have e0 := ndO_pos hj
  rw [e0] at hG
  have hG : gW X F V ((it, oB 29 [v1, .ref (nA N j), .int (zI (j : Int)), .int (zI mo), .ref ll]) :: (ll, oB 27 [.int (zI mo), .int (zI (N.length : Int)), va_rf (hdO N), va_rf (tlO N)]) :: Z) s _ _ := hG
  have hnd := hN.2.2.2 j (by omega)
  have hrb7 := hN.2.1 j (by omega)
  have hnd : V (nR N j) = some (nA N j, oB 28 [.ref (nT N j), va_rf (nxO N j), va_rf (pvO N j)]) := hnd
  refine g_ne (tgt := 19) hx hb dJ34_next_8 (by decide) (by decide) (fun h1 => ?_) (fun h1 => ?_)
  · refine lv_aload_n hx hb dJ34_next_19 rfl (lv_at hl 0 rfl) ?_
    refine lv_aload_n hx hb dJ34_next_20 rfl (lv_at hl 0 rfl) ?_
    refine g_get (ci := 29) hx hb hts in_J34 hown hG (hG.at 0 rfl) rfl 1 (Nat.le_of_ble_eq_true rfl) (hts _ q1424) (fun _ h9 => h9) rfl dJ34_next_21 ?_
    refine g_put (ci := 29) hx hb hts in_J34 tyJ34 tyJ34_ok nmJ34 hown hG 0 rfl rfl 0 (Nat.le_of_ble_eq_true rfl) (hts _ q1423) (fun _ h9 => h9) rfl (tyJ34_ok 0 (Nat.le_of_ble_eq_true rfl)) rfl rfl (Nat.le_of_ble_eq_true rfl) dJ34_next_24 (fun H locs (hG : gW X F V ((it, oB 29 [.ref (nA N j), .ref (nA N j), .int (zI (j : Int)), .int (zI mo), .ref ll]) :: (ll, oB 27 [.int (zI mo), .int (zI (N.length : Int)), va_rf (hdO N), va_rf (tlO N)]) :: Z) s H locs) => ?_)
    refine lv_aload_n hx hb dJ34_next_27 rfl (lv_at hl 0 rfl) ?_
    refine lv_aload_n hx hb dJ34_next_28 rfl (lv_at hl 0 rfl) ?_
    refine g_get (ci := 29) hx hb hts in_J34 hown hG (hG.at 0 rfl) rfl 1 (Nat.le_of_ble_eq_true rfl) (hts _ q1424) (fun _ h9 => h9) rfl dJ34_next_29 ?_
    refine g_get (ci := 28) hx hb hts in_J28 hown hG (hG.vo hnd) rfl 1 (Nat.le_of_ble_eq_true rfl) (hts _ q1230) (fun _ h9 => h9) rfl dJ34_next_32 ?_
    refine g_put (ci := 29) hx hb hts in_J34 tyJ34 tyJ34_ok nmJ34 hown hG 0 rfl rfl 1 (Nat.le_of_ble_eq_true rfl) (hts _ q1424) (fun _ h9 => h9) rfl (tyJ34_ok 1 (Nat.le_of_ble_eq_true rfl)) (va_rf_nar _ _) (va_rf_fit _ _) (Nat.le_of_ble_eq_true rfl) dJ34_next_35 (fun H locs (hG : gW X F V ((it, oB 29 [.ref (nA N j), va_rf (nxO N j), .int (zI (j : Int)), .int (zI mo), .ref ll]) :: (ll, oB 27 [.int (zI mo), .int (zI (N.length : Int)), va_rf (hdO N), va_rf (tlO N)]) :: Z) s H locs) => ?_)
    refine lv_aload_n hx hb dJ34_next_38 rfl (lv_at hl 0 rfl) ?_
    refine lv_dup hx hb dJ34_next_39 rfl ?_
    refine g_get (ci := 29) hx hb hts in_J34 hown hG (hG.at 0 rfl) rfl 2 (Nat.le_of_ble_eq_true rfl) (hts _ q1425) (fun _ h9 => h9) rfl dJ34_next_40 ?_
    refine lv_iconst (v := zI 1) hx hb dJ34_next_43 (by decide +kernel) ?_
    refine g_iadd hx hb dJ34_next_44 ?_
    refine g_put (ci := 29) hx hb hts in_J34 tyJ34 tyJ34_ok nmJ34 hown hG 0 rfl rfl 2 (Nat.le_of_ble_eq_true rfl) (hts _ q1425) (fun _ h9 => h9) rfl (tyJ34_ok 2 (Nat.le_of_ble_eq_true rfl)) rfl rfl (Nat.le_of_ble_eq_true rfl) dJ34_next_45 (fun H locs (hG : gW X F V ((it, oB 29 [.ref (nA N j), va_rf (nxO N j), .int (zI ((j : Int) + 1)), .int (zI mo), .ref ll]) :: (ll, oB 27 [.int (zI mo), .int (zI (N.length : Int)), va_rf (hdO N), va_rf (tlO N)]) :: Z) s H locs) => ?_)
    refine lv_aload_n hx hb dJ34_next_48 rfl (lv_at hl 0 rfl) ?_
    refine g_get (ci := 29) hx hb hts in_J34 hown hG (hG.at 0 rfl) rfl 0 (Nat.le_of_ble_eq_true rfl) (hts _ q1423) (fun _ h9 => h9) rfl dJ34_next_49 ?_
    refine g_get (ci := 28) hx hb hts in_J28 hown hG (hG.vo hnd) rfl 0 (Nat.le_of_ble_eq_true rfl) (hts _ q1227) (fun _ h9 => h9) rfl dJ34_next_52 ?_
    exact g_rret hx hb hr (Or.inl ⟨_, rfl⟩) hlocks hG (⟨rfl, rfl, rfl, by rw [show (((j + 1 : Nat)) : Int) = (j : Int) + 1 by omega]; rfl⟩) ⟨Nat.le_of_ble_eq_true rfl, Nat.le_of_ble_eq_true rfl⟩ dJ34_next_55
  · exfalso; omega

set_option maxHeartbeats 4000000 in
theorem metJ34_remove {l : Launch} {X : gX} {F : gF} {V : gV} {Z : va_W} {it j ll B : Nat} {mo : Int} {N : List Nd} (hN : llN V B N) (h24 : N.length ≤ 1000) (hj : j < N.length) : Met l yJ34_remove (ws_ yJ34_remove cJ34_remove 2 none) ({ frames := 1, cells := 0, slots := 0, locals := 24 }) (gP X F V ((it, oB 29 [.ref (nA N j), va_rf (ndO N (j + 1)), .int (zI ((j + 1 : Nat) : Int)), .int (zI mo), .ref ll]) :: (ll, oB 27 [.int (zI mo), .int (zI (N.length : Int)), va_rf (hdO N), va_rf (tlO N)]) :: Z) [.ref it]) (gQv X (fun G U ws => F = G ∧ llN U B (N.eraseIdx j) ∧ vx100 V U ∧ ((it, oB 29 [.null, va_rf (ndO N (j + 1)), .int (zI (j : Int)), .int (zI (mo + 1)), .ref ll]) :: (ll, llE (mo + 1) (N.eraseIdx j)) :: Z) = ws)) 0 0 (gA X) := by
  refine Met.g (by decide) (Nat.le_of_ble_eq_true rfl) ?_
  intro p e s m below meth c ls hx hb hr hts hown hlocks hml hin hG hl
  have hl : lv_has ls 2 [(0, .ref it)] := hl
  have hne : ndO N (j + 1) ≠ some (nA N j) := by
    unfold ndO
    by_cases e : j + 1 < N.length
    · rw [if_pos e]; exact fun q => gV_ne hG (hN.2.2.2 (j + 1) e) (hN.2.2.2 j hj) (hN.2.2.1 (j + 1) j e hj (by omega)) (Option.some.inj q)
    · rw [if_neg e]; exact fun q => by cases q
  refine lv_aload_n hx hb dJ34_remove_0 rfl (lv_at hl 0 rfl) ?_
  refine g_cv (va_runV (As := []) (rest := []) ⟨hx, hb, hml, hown, hts⟩ (metJ34_checkForComodification) (cwV 0 hts (lw_V q1705 q1706 q1707 q137 q1708) rfl rfl rfl (by decide +kernel) ⟨Nat.le_of_ble_eq_true rfl, Nat.le_of_ble_eq_true rfl⟩) (g_preV hG (g_recv hG (hG.at 0 rfl) (ci := 29) rfl)) rfl rfl hl.1 rfl (lv_room (Nat.le_of_ble_eq_true rfl)) dJ34_remove_1 ⟨Nat.le_of_ble_eq_true rfl, Nat.le_of_ble_eq_true rfl⟩) hG (fun F_2 V_3 ws_ H locs hp hG => ?_)
  obtain ⟨rfl, rfl, rfl⟩ := hp
  have hG : gW X F V ((it, oB 29 [.ref (nA N j), va_rf (ndO N (j + 1)), .int (zI ((j + 1 : Nat) : Int)), .int (zI mo), .ref ll]) :: (ll, oB 27 [.int (zI mo), .int (zI (N.length : Int)), va_rf (hdO N), va_rf (tlO N)]) :: Z) s H locs := hG
  have hnd := hN.2.2.2 j (by omega)
  have hrb4 := hN.2.1 j (by omega)
  have hnd : V (nR N j) = some (nA N j, oB 28 [.ref (nT N j), va_rf (nxO N j), va_rf (pvO N j)]) := hnd
  refine lv_aload_n hx hb dJ34_remove_4 rfl (lv_at hl 0 rfl) ?_
  refine g_get (ci := 29) hx hb hts in_J34 hown hG (hG.at 0 rfl) rfl 0 (Nat.le_of_ble_eq_true rfl) (hts _ q1423) (fun _ h9 => h9) rfl dJ34_remove_5 ?_
  refine lv_ifnonnull (tgt := 19) hx hb dJ34_remove_8 (by decide) ?_
  refine lv_aload_n hx hb dJ34_remove_19 rfl (lv_at hl 0 rfl) ?_
  refine g_get (ci := 29) hx hb hts in_J34 hown hG (hG.at 0 rfl) rfl 0 (Nat.le_of_ble_eq_true rfl) (hts _ q1423) (fun _ h9 => h9) rfl dJ34_remove_20 ?_
  refine g_get (ci := 28) hx hb hts in_J28 hown hG (hG.vo hnd) rfl 1 (Nat.le_of_ble_eq_true rfl) (hts _ q1230) (fun _ h9 => h9) rfl dJ34_remove_23 ?_
  refine g_astore_nq (lv' := [(1, va_rf (nxO N j)), (0, .ref it)]) hx hb dJ34_remove_26 rfl hl (by decide) rfl (fun ls hl => ?_)
  refine lv_aload_n hx hb dJ34_remove_27 rfl (lv_at hl 1 rfl) ?_
  refine g_get (ci := 29) hx hb hts in_J34 hown hG (hG.at 0 rfl) rfl 4 (Nat.le_of_ble_eq_true rfl) (hts _ q1427) (fun _ h9 => h9) rfl dJ34_remove_28 ?_
  refine lv_aload_n hx hb dJ34_remove_31 rfl (lv_at hl 1 rfl) ?_
  refine g_get (ci := 29) hx hb hts in_J34 hown hG (hG.at 0 rfl) rfl 0 (Nat.le_of_ble_eq_true rfl) (hts _ q1423) (fun _ h9 => h9) rfl dJ34_remove_32 ?_
  have hG : gW X F V ((ll, oB 27 [.int (zI mo), .int (zI (N.length : Int)), va_rf (hdO N), va_rf (tlO N)]) :: (it, oB 29 [.ref (nA N j), va_rf (ndO N (j + 1)), .int (zI ((j + 1 : Nat) : Int)), .int (zI mo), .ref ll]) :: Z) s _ _ := hG.pull 1 rfl rfl
  refine g_cr (va_runV (As := [.ref (nA N j)]) (rest := []) ⟨hx, hb, hml, hown, hts⟩ (metJ41_unlink hN h24 hj) (cwV 1 hts (lw_V q2643 q2586 q2587 q156 q2588) rfl rfl rfl (by decide +kernel) ⟨Nat.le_of_ble_eq_true rfl, Nat.le_of_ble_eq_true rfl⟩) (g_preV hG (g_recv hG (hG.at 0 rfl) (ci := 27) rfl)) rfl rfl hl.1 rfl (lv_room (Nat.le_of_ble_eq_true rfl)) dJ34_remove_35 ⟨Nat.le_of_ble_eq_true rfl, Nat.le_of_ble_eq_true rfl⟩) hG (fun r_5 F_6 V_7 ws_ H locs hp hG => ?_)
  obtain ⟨rfl, rfl, hN9, hv9, rfl⟩ := hp
  have hG : gW X F V_7 ((ll, llE (mo + 1) (N.eraseIdx j)) :: (it, oB 29 [.ref (nA N j), va_rf (ndO N (j + 1)), .int (zI ((j + 1 : Nat) : Int)), .int (zI mo), .ref ll]) :: Z) s H locs := hG
  refine lv_pop hx hb dJ34_remove_38 rfl ?_
  refine lv_aload_n hx hb dJ34_remove_39 rfl (lv_at hl 1 rfl) ?_
  refine g_get (ci := 29) hx hb hts in_J34 hown hG (hG.at 1 rfl) rfl 1 (Nat.le_of_ble_eq_true rfl) (hts _ q1424) (fun _ h9 => h9) rfl dJ34_remove_40 ?_
  refine lv_aload_n hx hb dJ34_remove_43 rfl (lv_at hl 1 rfl) ?_
  refine g_get (ci := 29) hx hb hts in_J34 hown hG (hG.at 1 rfl) rfl 0 (Nat.le_of_ble_eq_true rfl) (hts _ q1423) (fun _ h9 => h9) rfl dJ34_remove_44 ?_
  refine lv_acmp_ne (rx := (ndO N (j + 1))) (ry := (some (nA N j))) (tgt := 58) hx hb dJ34_remove_47 (by decide) (fun h1 => ?_) (fun h1 => ?_)
  · refine lv_aload_n hx hb dJ34_remove_58 rfl (lv_at hl 1 rfl) ?_
    refine lv_dup hx hb dJ34_remove_59 rfl ?_
    refine g_get (ci := 29) hx hb hts in_J34 hown hG (hG.at 1 rfl) rfl 2 (Nat.le_of_ble_eq_true rfl) (hts _ q1425) (fun _ h9 => h9) rfl dJ34_remove_60 ?_
    refine lv_iconst (v := zI 1) hx hb dJ34_remove_63 (by decide +kernel) ?_
    refine g_isub hx hb dJ34_remove_64 ?_
    refine g_put (ci := 29) hx hb hts in_J34 tyJ34 tyJ34_ok nmJ34 hown hG 1 rfl rfl 2 (Nat.le_of_ble_eq_true rfl) (hts _ q1425) (fun _ h9 => h9) rfl (tyJ34_ok 2 (Nat.le_of_ble_eq_true rfl)) rfl rfl (Nat.le_of_ble_eq_true rfl) dJ34_remove_65 (fun H locs (hG : gW X F V_7 ((ll, llE (mo + 1) (N.eraseIdx j)) :: (it, oB 29 [.ref (nA N j), va_rf (ndO N (j + 1)), .int (zI (((j + 1 : Nat) : Int) - 1)), .int (zI mo), .ref ll]) :: Z) s H locs) => ?_)
    refine lv_aload_n hx hb dJ34_remove_68 rfl (lv_at hl 1 rfl) ?_
    refine lv_null hx hb dJ34_remove_69 ?_
    refine g_put (ci := 29) hx hb hts in_J34 tyJ34 tyJ34_ok nmJ34 hown hG 1 rfl rfl 0 (Nat.le_of_ble_eq_true rfl) (hts _ q1423) (fun _ h9 => h9) rfl (tyJ34_ok 0 (Nat.le_of_ble_eq_true rfl)) rfl rfl (Nat.le_of_ble_eq_true rfl) dJ34_remove_70 (fun H locs (hG : gW X F V_7 ((ll, llE (mo + 1) (N.eraseIdx j)) :: (it, oB 29 [.null, va_rf (ndO N (j + 1)), .int (zI (((j + 1 : Nat) : Int) - 1)), .int (zI mo), .ref ll]) :: Z) s H locs) => ?_)
    refine lv_aload_n hx hb dJ34_remove_73 rfl (lv_at hl 1 rfl) ?_
    refine lv_dup hx hb dJ34_remove_74 rfl ?_
    refine g_get (ci := 29) hx hb hts in_J34 hown hG (hG.at 1 rfl) rfl 3 (Nat.le_of_ble_eq_true rfl) (hts _ q1426) (fun _ h9 => h9) rfl dJ34_remove_75 ?_
    refine lv_iconst (v := zI 1) hx hb dJ34_remove_78 (by decide +kernel) ?_
    refine g_iadd hx hb dJ34_remove_79 ?_
    refine g_put (ci := 29) hx hb hts in_J34 tyJ34 tyJ34_ok nmJ34 hown hG 1 rfl rfl 3 (Nat.le_of_ble_eq_true rfl) (hts _ q1426) (fun _ h9 => h9) rfl (tyJ34_ok 3 (Nat.le_of_ble_eq_true rfl)) rfl rfl (Nat.le_of_ble_eq_true rfl) dJ34_remove_80 (fun H locs (hG : gW X F V_7 ((ll, llE (mo + 1) (N.eraseIdx j)) :: (it, oB 29 [.null, va_rf (ndO N (j + 1)), .int (zI (((j + 1 : Nat) : Int) - 1)), .int (zI (mo + 1)), .ref ll]) :: Z) s H locs) => ?_)
    have e9 : ((j + 1 : Nat) : Int) - 1 = (j : Int) := by omega
    have hG : gW X F V_7 ((it, oB 29 [.null, va_rf (ndO N (j + 1)), .int (zI (((j + 1 : Nat) : Int) - 1)), .int (zI (mo + 1)), .ref ll]) :: (ll, llE (mo + 1) (N.eraseIdx j)) :: Z) s _ _ := hG.pull 1 rfl rfl
    exact g_vret hx hb hr hlocks hG (⟨rfl, hN9, hv9, by rw [show ((j : Nat) : Int) = ((j + 1 : Nat) : Int) - 1 by omega]⟩) ⟨Nat.le_of_ble_eq_true rfl, Nat.le_of_ble_eq_true rfl⟩ dJ34_remove_83
  · exact absurd h1 hne

