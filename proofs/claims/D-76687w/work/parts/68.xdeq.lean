set_option maxRecDepth 100000
section G11
variable {s : State} {H : Heap} {locs : List Loc} {X : gX} {F : gF} {V : gV} {ws : va_W}
theorem cast_asg {C E : String} (h : va_Nw (.castable C E) s) : ∀ comp c0 : ClassId, s.vm.findClass E = some comp → s.vm.findClass C = some c0 → s.vm.assignable c0 comp = true := by
  intro comp c0 h1 h2
  obtain ⟨c1, t1, f1, f2, f3⟩ := Cond.castable_spec (va_Nw.use (A := #[]) rfl h)
  cases f1.symm.trans h2
  cases f2.symm.trans h1
  exact f3
theorem cls_ex {E : String} : ∀ comp, s.vm.findClass E = some comp → ∃ kE : Class, s.vm.classes[comp]? = some kE := fun comp h => by
  obtain ⟨kE, hkE, -⟩ := Vm.findClass_spec h
  exact ⟨kE, hkE⟩
theorem rev_recv (hG : gW X F V ws s H locs) {a : Nat} {i : gRv} (h : F.2 a = some i) : ∃ cell : Cell, H[a]? = some cell ∧ cell.vm.isStatics = false ∧ s.vm.findClass "LineRemarks$Revision" = some cell.cls := by
  obtain ⟨v, hat, -⟩ := hG.rv h
  exact g_recv hG hat (ci := ciRev) rfl
end G11
/-- a deque's content L: from h on, round the 17 places -/
def dqR (f : Nat → Option Nat) (h t : Nat) (L : List Nat) : Prop := h < 17 ∧ t = (h + L.length) % 17 ∧ L.length ≤ 16 ∧ ∀ i, i < L.length → f ((h + i) % 17) = some (L.getD i 0)
theorem dqR.front {f : Nat → Option Nat} {h t a : Nat} {L : List Nat} (k : dqR f h t L) (hl : L.length ≤ 15) : dqR (va_up f ((h + 16) % 17) (some a)) ((h + 16) % 17) t (a :: L) := by
  obtain ⟨h1, h2, h3, h4⟩ := k
  refine ⟨by omega, by show t = ((h + 16) % 17 + (L.length + 1)) % 17; omega, by show L.length + 1 ≤ 16; omega, fun i hi => ?_⟩
  have hi : i < L.length + 1 := hi
  cases i with
  | zero => rw [show ((h + 16) % 17 + 0) % 17 = (h + 16) % 17 by omega, va_up_self]; rfl
  | succ i =>
    rw [va_up_ne _ _ (by omega), show ((h + 16) % 17 + (i + 1)) % 17 = (h + i) % 17 by omega]
    exact h4 i (by omega)
theorem dqR.nil {f : Nat → Option Nat} : dqR f 0 0 [] := ⟨by decide, rfl, by decide, fun i hi => absurd hi (Nat.not_lt_zero i)⟩
set_option maxHeartbeats 4000000 in
theorem metJ36_dec {l : Launch} {X : gX} {F : gF} {V : gV} {Z : va_W} {i : Nat} (hi : i < 17) : Met l yJ36_dec (ws_ yJ36_dec cJ36_dec 2 (some FieldType.int)) ({ frames := 0, cells := 0, slots := 0, locals := 0 }) (gP X F V (Z) [.int (zI (i : Int)), .int (zI 17)]) (gQi X (fun u G U ws => u = zI (((i + 16) % 17 : Nat) : Int) ∧ F = G ∧ V = U ∧ Z = ws)) 0 0 (gA X) := by
  refine Met.g (by decide) (Nat.le_of_ble_eq_true rfl) ?_
  intro p e s m below meth c ls hx hb hr hts hown hlocks hml hin hG hl
  have hl : lv_has ls 2 [(0, .int (zI (i : Int))), (1, .int (zI 17))] := hl
  refine lv_iinc (v := zI ((i : Int) - 1 : Int)) (lv' := [(0, .int (zI ((i : Int) - 1 : Int))), (1, .int (zI 17))]) hx hb dJ36_dec_0 hl (k := 0) rfl ((zI_add _ _).trans (congrArg zI (by omega))) (by decide) rfl (fun ls hl => ?_)
  refine lv_iload_n hx hb dJ36_dec_3 rfl (lv_at hl 0 rfl) ?_
  refine g_ge (tgt := 11) hx hb dJ36_dec_4 (by decide) (by omega) (fun h1 => ?_) (fun h1 => ?_)
  · refine lv_iload_n hx hb dJ36_dec_11 rfl (lv_at hl 0 rfl) ?_
    exact g_iret hx hb hr hlocks hG (⟨congrArg zI (by omega), rfl, rfl, rfl⟩) ⟨Nat.le_of_ble_eq_true rfl, Nat.le_of_ble_eq_true rfl⟩ dJ36_dec_12
  · refine lv_iload_n hx hb dJ36_dec_7 rfl (lv_at hl 1 rfl) ?_
    refine lv_iconst (v := zI 1) hx hb dJ36_dec_8 (by decide +kernel) ?_
    refine g_isub hx hb dJ36_dec_9 ?_
    refine g_topz (y := 16) (by omega) ?_
    refine lv_istore_n (lv' := [(0, .int (zI 16)), (1, .int (zI 17))]) hx hb dJ36_dec_10 rfl hl (by decide) rfl (fun ls hl => ?_)
    refine lv_iload_n hx hb dJ36_dec_11 rfl (lv_at hl 0 rfl) ?_
    exact g_iret hx hb hr hlocks hG (⟨congrArg zI (by omega), rfl, rfl, rfl⟩) ⟨Nat.le_of_ble_eq_true rfl, Nat.le_of_ble_eq_true rfl⟩ dJ36_dec_12

set_option maxHeartbeats 4000000 in
theorem metJ36_inc {l : Launch} {X : gX} {F : gF} {V : gV} {Z : va_W} {i : Nat} (hi : i < 17) : Met l yJ36_inc (ws_ yJ36_inc cJ36_inc 2 (some FieldType.int)) ({ frames := 0, cells := 0, slots := 0, locals := 0 }) (gP X F V (Z) [.int (zI (i : Int)), .int (zI 17)]) (gQi X (fun u G U ws => u = zI (((i + 1) % 17 : Nat) : Int) ∧ F = G ∧ V = U ∧ Z = ws)) 0 0 (gA X) := by
  refine Met.g (by decide) (Nat.le_of_ble_eq_true rfl) ?_
  intro p e s m below meth c ls hx hb hr hts hown hlocks hml hin hG hl
  have hl : lv_has ls 2 [(0, .int (zI (i : Int))), (1, .int (zI 17))] := hl
  refine lv_iinc (v := zI ((i : Int) + 1 : Int)) (lv' := [(0, .int (zI ((i : Int) + 1 : Int))), (1, .int (zI 17))]) hx hb dJ36_inc_0 hl (k := 0) rfl ((zI_add _ _).trans (congrArg zI (by omega))) (by decide) rfl (fun ls hl => ?_)
  refine lv_iload_n hx hb dJ36_inc_3 rfl (lv_at hl 0 rfl) ?_
  refine lv_iload_n hx hb dJ36_inc_4 rfl (lv_at hl 1 rfl) ?_
  refine g_clt (tgt := 10) hx hb dJ36_inc_5 (by decide) (by omega) (fun h1 => ?_) (fun h1 => ?_)
  · refine lv_iload_n hx hb dJ36_inc_10 rfl (lv_at hl 0 rfl) ?_
    exact g_iret hx hb hr hlocks hG (⟨congrArg zI (by omega), rfl, rfl, rfl⟩) ⟨Nat.le_of_ble_eq_true rfl, Nat.le_of_ble_eq_true rfl⟩ dJ36_inc_11
  · refine lv_iconst (v := zI 0) hx hb dJ36_inc_8 (by decide +kernel) ?_
    refine lv_istore_n (lv' := [(0, .int (zI 0)), (1, .int (zI 17))]) hx hb dJ36_inc_9 rfl hl (by decide) rfl (fun ls hl => ?_)
    refine lv_iload_n hx hb dJ36_inc_10 rfl (lv_at hl 0 rfl) ?_
    exact g_iret hx hb hr hlocks hG (⟨congrArg zI (by omega), rfl, rfl, rfl⟩) ⟨Nat.le_of_ble_eq_true rfl, Nat.le_of_ble_eq_true rfl⟩ dJ36_inc_11

set_option maxHeartbeats 4000000 in
theorem metJ36_sub {l : Launch} {X : gX} {F : gF} {V : gV} {Z : va_W} {i j : Nat} (hi : i < 17 ∧ j < 17) : Met l yJ36_sub (ws_ yJ36_sub cJ36_sub 3 (some FieldType.int)) ({ frames := 0, cells := 0, slots := 0, locals := 0 }) (gP X F V (Z) [.int (zI (i : Int)), .int (zI (j : Int)), .int (zI 17)]) (gQi X (fun u G U ws => u = zI (((i + 17 - j) % 17 : Nat) : Int) ∧ F = G ∧ V = U ∧ Z = ws)) 0 0 (gA X) := by
  refine Met.g (by decide) (Nat.le_of_ble_eq_true rfl) ?_
  intro p e s m below meth c ls hx hb hr hts hown hlocks hml hin hG hl
  have hl : lv_has ls 3 [(0, .int (zI (i : Int))), (1, .int (zI (j : Int))), (2, .int (zI 17))] := hl
  refine lv_iload_n hx hb dJ36_sub_0 rfl (lv_at hl 0 rfl) ?_
  refine lv_iload_n hx hb dJ36_sub_1 rfl (lv_at hl 1 rfl) ?_
  refine g_isub hx hb dJ36_sub_2 ?_
  refine lv_dup hx hb dJ36_sub_3 rfl ?_
  refine lv_istore_n (lv' := [(0, .int (zI ((i : Int) - (j : Int)))), (1, .int (zI (j : Int))), (2, .int (zI 17))]) hx hb dJ36_sub_4 rfl hl (by decide) rfl (fun ls hl => ?_)
  refine g_ge (tgt := 12) hx hb dJ36_sub_5 (by decide) (by omega) (fun h1 => ?_) (fun h1 => ?_)
  · refine lv_iload_n hx hb dJ36_sub_12 rfl (lv_at hl 0 rfl) ?_
    exact g_iret hx hb hr hlocks hG (⟨congrArg zI (by omega), rfl, rfl, rfl⟩) ⟨Nat.le_of_ble_eq_true rfl, Nat.le_of_ble_eq_true rfl⟩ dJ36_sub_13
  · refine lv_iload_n hx hb dJ36_sub_8 rfl (lv_at hl 0 rfl) ?_
    refine lv_iload_n hx hb dJ36_sub_9 rfl (lv_at hl 2 rfl) ?_
    refine g_iadd hx hb dJ36_sub_10 ?_
    refine lv_istore_n (lv' := [(0, .int (zI (((i : Int) - (j : Int)) + 17))), (1, .int (zI (j : Int))), (2, .int (zI 17))]) hx hb dJ36_sub_11 rfl hl (by decide) rfl (fun ls hl => ?_)
    refine lv_iload_n hx hb dJ36_sub_12 rfl (lv_at hl 0 rfl) ?_
    exact g_iret hx hb hr hlocks hG (⟨congrArg zI (by omega), rfl, rfl, rfl⟩) ⟨Nat.le_of_ble_eq_true rfl, Nat.le_of_ble_eq_true rfl⟩ dJ36_sub_13

set_option maxHeartbeats 4000000 in
theorem metJ5_init {l : Launch} {X : gX} {F : gF} {V : gV} {Z : va_W} {a : Nat} : Met l yJ5_init (ws_ yJ5_init cJ5_init 1 none) ({ frames := 1, cells := 0, slots := 0, locals := 20 }) (gP X F V (Z) [.ref a]) (gQv X (fun G U ws => F = G ∧ V = U ∧ Z = ws)) 0 0 (gA X) := by
  refine Met.g (by decide) (Nat.le_of_ble_eq_true rfl) ?_
  intro p e s m below meth c ls hx hb hr hts hown hlocks hml hin hG hl
  have hl : lv_has ls 1 [(0, .ref a)] := hl
  refine lv_aload_n hx hb dJ5_init_0 rfl (lv_at hl 0 rfl) ?_
  refine W.objInit hx hb hown (hts _ q296) (hts _ q170) (hts _ q171) rfl (by rw [hml]; exact hl.1) rfl dJ5_init_1 (Nat.le_of_ble_eq_true rfl) (Nat.le_of_ble_eq_true rfl) ?_
  refine W.eq (g2 := F0 m 4 ls []) rfl ?_
  exact g_vret hx hb hr hlocks hG (⟨rfl, rfl, rfl⟩) ⟨Nat.le_of_ble_eq_true rfl, Nat.le_of_ble_eq_true rfl⟩ dJ5_init_4

set_option maxHeartbeats 4000000 in
theorem metJ36_init {l : Launch} {X : gX} {F : gF} {V : gV} {Z : va_W} {dq : Nat} : Met l yJ36_init (ws_ yJ36_init cJ36_init 1 none) ({ frames := 2, cells := 1, slots := 17, locals := 40 }) (gP X F V ((dq, oB 30 [.null, .int (zI 0), .int (zI 0)]) :: Z) [.ref dq]) (gQv X (fun G U ws => F = G ∧ V = U ∧ ∃ es : Nat, ((es, aR (gT X 10) 17 (fun _ => none)) :: (dq, oB 30 [.ref es, .int (zI 0), .int (zI 0)]) :: Z) = ws)) 1 17 (gA X) := by
  refine Met.g (by decide) (Nat.le_of_ble_eq_true rfl) ?_
  intro p e s m below meth c ls hx hb hr hts hown hlocks hml hin hG hl
  have hl : lv_has ls 1 [(0, .ref dq)] := hl
  refine lv_aload_n hx hb dJ36_init_0 rfl (lv_at hl 0 rfl) ?_
  refine g_cv (va_runI (As := []) (rest := []) ⟨hx, hb, hml, hown, hts⟩ (metJ5_init) (cwI 0 hts (lw_meth q295) rfl rfl rfl (hts _ q95) (hts _ q1965) (hts _ q294) rfl (by decide +kernel) ⟨Nat.le_of_ble_eq_true rfl, Nat.le_of_ble_eq_true rfl⟩) (g_preS hG) rfl rfl hl.1 rfl (lv_room (Nat.le_of_ble_eq_true rfl)) dJ36_init_1 ⟨Nat.le_of_ble_eq_true rfl, Nat.le_of_ble_eq_true rfl⟩) hG (fun F_2 V_3 ws_ H locs hp hG => ?_)
  obtain ⟨rfl, rfl, rfl⟩ := hp
  have hG : gW X F V ((dq, oB 30 [.null, .int (zI 0), .int (zI 0)]) :: Z) s H locs := hG
  refine lv_aload_n hx hb dJ36_init_4 rfl (lv_at hl 0 rfl) ?_
  refine lv_bipush (v := zI 17) hx hb dJ36_init_5 (by decide +kernel) ?_
  refine g_newq hx hb hown (hts _ q1966) (hG.1.2.1.2.1 "java/lang/Object" (by decide)) 10 rfl hG (N := 17) ⟨rfl, by decide⟩ ⟨Nat.le_of_ble_eq_true rfl, Nat.le_of_ble_eq_true rfl⟩ dJ36_init_7 (fun es H (hG : gW X F V ((es, aR (gT X 10) 17 (fun _ => none)) :: (dq, oB 30 [.null, .int (zI 0), .int (zI 0)]) :: Z) s H _) => ?_)
  refine g_put (ci := 30) hx hb hts in_J36 tyJ36 tyJ36_ok nmJ36 hown hG 1 rfl rfl 0 (Nat.le_of_ble_eq_true rfl) (hts _ q1967) (fun _ h9 => h9) rfl (tyJ36_ok 0 (Nat.le_of_ble_eq_true rfl)) rfl rfl (Nat.le_of_ble_eq_true rfl) dJ36_init_10 (fun H locs (hG : gW X F V ((es, aR (gT X 10) 17 (fun _ => none)) :: (dq, oB 30 [.ref es, .int (zI 0), .int (zI 0)]) :: Z) s H locs) => ?_)
  exact g_vret hx hb hr hlocks hG (⟨rfl, rfl, es, rfl⟩) ⟨Nat.le_of_ble_eq_true rfl, Nat.le_of_ble_eq_true rfl⟩ dJ36_init_13

set_option maxHeartbeats 4000000 in
theorem metJ36_addFirst {l : Launch} {X : gX} {F : gF} {V : gV} {Z : va_W} {dq es a h t : Nat} {i9 : gRv} {f : Nat → Option Nat} {L : List Nat} (hrv : F.2 a = some i9) (hdq : dqR f h t L) (hl : L.length ≤ 15) : Met l yJ36_addFirst (ws_ yJ36_addFirst cJ36_addFirst 3 none) ({ frames := 1, cells := 0, slots := 0, locals := 21 }) (gP X F V ((dq, oB 30 [.ref es, .int (zI (h : Int)), .int (zI (t : Int))]) :: (es, aR (gT X 10) 17 f) :: Z) [.ref dq, .ref a]) (gQv X (fun G U ws => F = G ∧ V = U ∧ ((dq, oB 30 [.ref es, .int (zI (((h + 16) % 17 : Nat) : Int)), .int (zI (t : Int))]) :: (es, aR (gT X 10) 17 (va_up f ((h + 16) % 17) (some a))) :: Z) = ws)) 0 0 (gA X) := by
  refine Met.g (by decide) (Nat.le_of_ble_eq_true rfl) ?_
  intro p e s m below meth c ls hx hb hr hts hown hlocks hml hin hG hl
  have hl : lv_has ls 3 [(0, .ref dq), (1, .ref a)] := hl
  have hh := hdq.1
  have hht := hdq.2.1
  refine lv_aload_n hx hb dJ36_addFirst_0 rfl (lv_at hl 1 rfl) ?_
  refine lv_ifnonnull (tgt := 12) hx hb dJ36_addFirst_1 (by decide) ?_
  refine lv_aload_n hx hb dJ36_addFirst_12 rfl (lv_at hl 0 rfl) ?_
  refine g_get (ci := 30) hx hb hts in_J36 hown hG (hG.at 0 rfl) rfl 0 (Nat.le_of_ble_eq_true rfl) (hts _ q1967) (fun _ h9 => h9) rfl dJ36_addFirst_13 ?_
  refine lv_astore_n (lv' := [(2, .ref es), (0, .ref dq), (1, .ref a)]) hx hb dJ36_addFirst_16 rfl hl (by decide) rfl (fun ls hl => ?_)
  refine lv_aload_n hx hb dJ36_addFirst_17 rfl (lv_at hl 0 rfl) ?_
  refine lv_aload_n hx hb dJ36_addFirst_18 rfl (lv_at hl 1 rfl) ?_
  refine lv_aload_n hx hb dJ36_addFirst_19 rfl (lv_at hl 1 rfl) ?_
  refine g_get (ci := 30) hx hb hts in_J36 hown hG (hG.at 0 rfl) rfl 1 (Nat.le_of_ble_eq_true rfl) (hts _ q1970) (fun _ h9 => h9) rfl dJ36_addFirst_20 ?_
  refine lv_aload_n hx hb dJ36_addFirst_23 rfl (lv_at hl 0 rfl) ?_
  refine g_alen hx hb hG 10 rfl (hG.at 1 rfl) dJ36_addFirst_24 ?_
  refine g_topz (y := 17) rfl ?_
  refine g_ci (va_runS (As := [.int (zI (h : Int)), .int (zI 17)]) (rest := [.ref dq, .ref es]) ⟨hx, hb, hml, hown, hts⟩ (metJ36_dec (i := h) hdq.1) (va_cwS 2 hts (lw_S q1983 q1984 q139 q1985) rfl rfl rfl (by decide +kernel) ⟨Nat.le_of_ble_eq_true rfl, Nat.le_of_ble_eq_true rfl⟩) (g_preS hG) rfl rfl hl.1 rfl (lv_room (Nat.le_of_ble_eq_true rfl)) dJ36_addFirst_25 ⟨Nat.le_of_ble_eq_true rfl, Nat.le_of_ble_eq_true rfl⟩) hG (fun r_1 F_2 V_3 ws_ H locs hp hG => ?_)
  obtain ⟨rfl, rfl, rfl, rfl⟩ := hp
  have hG : gW X F V ((dq, oB 30 [.ref es, .int (zI (h : Int)), .int (zI (t : Int))]) :: (es, aR (gT X 10) 17 f) :: Z) s H locs := hG
  refine lv_dup_x1 hx hb dJ36_addFirst_28 rfl rfl ?_
  refine g_put (ci := 30) hx hb hts in_J36 tyJ36 tyJ36_ok nmJ36 hown hG 0 rfl rfl 1 (Nat.le_of_ble_eq_true rfl) (hts _ q1970) (fun _ h9 => h9) rfl (tyJ36_ok 1 (Nat.le_of_ble_eq_true rfl)) rfl rfl (Nat.le_of_ble_eq_true rfl) dJ36_addFirst_29 (fun H locs (hG : gW X F V ((dq, oB 30 [.ref es, .int (zI (((h + 16) % 17 : Nat) : Int)), .int (zI (t : Int))]) :: (es, aR (gT X 10) 17 f) :: Z) s H locs) => ?_)
  refine lv_aload_n hx hb dJ36_addFirst_32 rfl (lv_at hl 2 rfl) ?_
  refine g_aast hx hb hG 1 rfl 10 rfl (rev_recv hG hrv) (cast_asg (hG.1.2.1.1 _ qn3797)) cls_ex ((h + 16) % 17) ⟨rfl, by omega, by omega⟩ dJ36_addFirst_33 (fun H locs (hG : gW X F V ((dq, oB 30 [.ref es, .int (zI (((h + 16) % 17 : Nat) : Int)), .int (zI (t : Int))]) :: (es, aR (gT X 10) 17 (va_up f ((h + 16) % 17) (some a))) :: Z) s H locs) => ?_)
  refine lv_aload_n hx hb dJ36_addFirst_34 rfl (lv_at hl 1 rfl) ?_
  refine g_get (ci := 30) hx hb hts in_J36 hown hG (hG.at 0 rfl) rfl 1 (Nat.le_of_ble_eq_true rfl) (hts _ q1970) (fun _ h9 => h9) rfl dJ36_addFirst_35 ?_
  refine lv_aload_n hx hb dJ36_addFirst_38 rfl (lv_at hl 1 rfl) ?_
  refine g_get (ci := 30) hx hb hts in_J36 hown hG (hG.at 0 rfl) rfl 2 (Nat.le_of_ble_eq_true rfl) (hts _ q1971) (fun _ h9 => h9) rfl dJ36_addFirst_39 ?_
  refine g_cne (tgt := 50) hx hb dJ36_addFirst_42 (by decide) (by omega) (fun h1 => ?_) (fun h1 => ?_)
  · exact g_vret hx hb hr hlocks hG (⟨rfl, rfl, rfl⟩) ⟨Nat.le_of_ble_eq_true rfl, Nat.le_of_ble_eq_true rfl⟩ dJ36_addFirst_50
  · exfalso; omega

set_option maxHeartbeats 4000000 in
theorem metJ36_isEmpty {l : Launch} {X : gX} {F : gF} {V : gV} {Z : va_W} {dq es h t : Nat} {f : Nat → Option Nat} {L : List Nat} (hdq : dqR f h t L) : Met l yJ36_isEmpty (ws_ yJ36_isEmpty cJ36_isEmpty 1 (some FieldType.boolean)) ({ frames := 0, cells := 0, slots := 0, locals := 0 }) (gP X F V ((dq, oB 30 [.ref es, .int (zI (h : Int)), .int (zI (t : Int))]) :: (es, aR (gT X 10) 17 f) :: Z) [.ref dq]) (gQi X (fun u G U ws => u = zI (bI (decide (L.length = 0))) ∧ F = G ∧ V = U ∧ ((dq, oB 30 [.ref es, .int (zI (h : Int)), .int (zI (t : Int))]) :: (es, aR (gT X 10) 17 f) :: Z) = ws)) 0 0 (gA X) := by
  refine Met.g (by decide) (Nat.le_of_ble_eq_true rfl) ?_
  intro p e s m below meth c ls hx hb hr hts hown hlocks hml hin hG hl
  have hl : lv_has ls 1 [(0, .ref dq)] := hl
  have hh := hdq.1
  have hht := hdq.2.1
  have hl16 := hdq.2.2.1
  refine lv_aload_n hx hb dJ36_isEmpty_0 rfl (lv_at hl 0 rfl) ?_
  refine g_get (ci := 30) hx hb hts in_J36 hown hG (hG.at 0 rfl) rfl 1 (Nat.le_of_ble_eq_true rfl) (hts _ q1970) (fun _ h9 => h9) rfl dJ36_isEmpty_1 ?_
  refine lv_aload_n hx hb dJ36_isEmpty_4 rfl (lv_at hl 0 rfl) ?_
  refine g_get (ci := 30) hx hb hts in_J36 hown hG (hG.at 0 rfl) rfl 2 (Nat.le_of_ble_eq_true rfl) (hts _ q1971) (fun _ h9 => h9) rfl dJ36_isEmpty_5 ?_
  refine g_cne (tgt := 15) hx hb dJ36_isEmpty_8 (by decide) (by omega) (fun h1 => ?_) (fun h1 => ?_)
  · refine lv_iconst (v := zI 0) hx hb dJ36_isEmpty_15 (by decide +kernel) ?_
    exact g_zret hx hb hr hlocks rfl hG (⟨by rw [decide_eq_false (by omega)]; rfl, rfl, rfl, rfl⟩) ⟨Nat.le_of_ble_eq_true rfl, Nat.le_of_ble_eq_true rfl⟩ dJ36_isEmpty_16
  · refine lv_iconst (v := zI 1) hx hb dJ36_isEmpty_11 (by decide +kernel) ?_
    refine lv_goto (tgt := 16) hx hb dJ36_isEmpty_12 (by decide) ?_
    exact g_zret hx hb hr hlocks rfl hG (⟨by rw [decide_eq_true (by omega)]; rfl, rfl, rfl, rfl⟩) ⟨Nat.le_of_ble_eq_true rfl, Nat.le_of_ble_eq_true rfl⟩ dJ36_isEmpty_16

set_option maxHeartbeats 4000000 in
theorem metJ36_size {l : Launch} {X : gX} {F : gF} {V : gV} {Z : va_W} {dq es h t : Nat} {f : Nat → Option Nat} {L : List Nat} (hdq : dqR f h t L) : Met l yJ36_size (ws_ yJ36_size cJ36_size 1 (some FieldType.int)) ({ frames := 1, cells := 0, slots := 0, locals := 22 }) (gP X F V ((dq, oB 30 [.ref es, .int (zI (h : Int)), .int (zI (t : Int))]) :: (es, aR (gT X 10) 17 f) :: Z) [.ref dq]) (gQi X (fun u G U ws => u = zI (L.length : Int) ∧ F = G ∧ V = U ∧ ((dq, oB 30 [.ref es, .int (zI (h : Int)), .int (zI (t : Int))]) :: (es, aR (gT X 10) 17 f) :: Z) = ws)) 0 0 (gA X) := by
  refine Met.g (by decide) (Nat.le_of_ble_eq_true rfl) ?_
  intro p e s m below meth c ls hx hb hr hts hown hlocks hml hin hG hl
  have hl : lv_has ls 1 [(0, .ref dq)] := hl
  have hh := hdq.1
  have hht := hdq.2.1
  have hl16 := hdq.2.2.1
  refine lv_aload_n hx hb dJ36_size_0 rfl (lv_at hl 0 rfl) ?_
  refine g_get (ci := 30) hx hb hts in_J36 hown hG (hG.at 0 rfl) rfl 2 (Nat.le_of_ble_eq_true rfl) (hts _ q1971) (fun _ h9 => h9) rfl dJ36_size_1 ?_
  refine lv_aload_n hx hb dJ36_size_4 rfl (lv_at hl 0 rfl) ?_
  refine g_get (ci := 30) hx hb hts in_J36 hown hG (hG.at 0 rfl) rfl 1 (Nat.le_of_ble_eq_true rfl) (hts _ q1970) (fun _ h9 => h9) rfl dJ36_size_5 ?_
  refine lv_aload_n hx hb dJ36_size_8 rfl (lv_at hl 0 rfl) ?_
  refine g_get (ci := 30) hx hb hts in_J36 hown hG (hG.at 0 rfl) rfl 0 (Nat.le_of_ble_eq_true rfl) (hts _ q1967) (fun _ h9 => h9) rfl dJ36_size_9 ?_
  refine g_alen hx hb hG 10 rfl (hG.at 1 rfl) dJ36_size_12 ?_
  refine g_topz (y := 17) rfl ?_
  refine g_ci (va_runS (As := [.int (zI (t : Int)), .int (zI (h : Int)), .int (zI 17)]) (rest := []) ⟨hx, hb, hml, hown, hts⟩ (metJ36_sub (i := t) (j := h) ⟨by omega, by omega⟩) (va_cwS 3 hts (lw_S q2012 q2013 q139 q2014) rfl rfl rfl (by decide +kernel) ⟨Nat.le_of_ble_eq_true rfl, Nat.le_of_ble_eq_true rfl⟩) (g_preS hG) rfl rfl hl.1 rfl (lv_room (Nat.le_of_ble_eq_true rfl)) dJ36_size_13 ⟨Nat.le_of_ble_eq_true rfl, Nat.le_of_ble_eq_true rfl⟩) hG (fun r_1 F_2 V_3 ws_ H locs hp hG => ?_)
  obtain ⟨rfl, rfl, rfl, rfl⟩ := hp
  have hG : gW X F V ((dq, oB 30 [.ref es, .int (zI (h : Int)), .int (zI (t : Int))]) :: (es, aR (gT X 10) 17 f) :: Z) s H locs := hG
  exact g_iret hx hb hr hlocks hG (⟨congrArg zI (by omega), rfl, rfl, rfl⟩) ⟨Nat.le_of_ble_eq_true rfl, Nat.le_of_ble_eq_true rfl⟩ dJ36_size_16

set_option maxHeartbeats 4000000 in
theorem metJ39_init {l : Launch} {X : gX} {F : gF} {V : gV} {Z : va_W} {it dq es h t : Nat} {f : Nat → Option Nat} {L : List Nat} (hdq : dqR f h t L) : Met l yJ39_init (ws_ yJ39_init cJ39_init 2 none) ({ frames := 2, cells := 0, slots := 0, locals := 42 }) (gP X F V ((it, oB 31 [.int (zI 0), .int (zI 0), .int (zI 0), .null]) :: (dq, oB 30 [.ref es, .int (zI (h : Int)), .int (zI (t : Int))]) :: (es, aR (gT X 10) 17 f) :: Z) [.ref it, .ref dq]) (gQv X (fun G U ws => F = G ∧ V = U ∧ ((it, oB 31 [.int (zI (h : Int)), .int (zI (L.length : Int)), .int (zI (-1)), .ref dq]) :: (dq, oB 30 [.ref es, .int (zI (h : Int)), .int (zI (t : Int))]) :: (es, aR (gT X 10) 17 f) :: Z) = ws)) 0 0 (gA X) := by
  refine Met.g (by decide) (Nat.le_of_ble_eq_true rfl) ?_
  intro p e s m below meth c ls hx hb hr hts hown hlocks hml hin hG hl
  have hl : lv_has ls 2 [(0, .ref it), (1, .ref dq)] := hl
  have hh := hdq.1
  refine lv_aload_n hx hb dJ39_init_0 rfl (lv_at hl 0 rfl) ?_
  refine lv_aload_n hx hb dJ39_init_1 rfl (lv_at hl 1 rfl) ?_
  refine g_putF (ci := 31) hx hb hts in_J39 tyJ39 tyJ39_ok nmJ39 hown hin hG 0 rfl rfl 3 (Nat.le_of_ble_eq_true rfl) (hts _ q2018) (fun _ h9 => h9) rfl rfl (tyJ39_ok 3 (Nat.le_of_ble_eq_true rfl)) rfl rfl (Nat.le_of_ble_eq_true rfl) dJ39_init_2 (fun H locs (hG : gW X F V ((it, oB 31 [.int (zI 0), .int (zI 0), .int (zI 0), .ref dq]) :: (dq, oB 30 [.ref es, .int (zI (h : Int)), .int (zI (t : Int))]) :: (es, aR (gT X 10) 17 f) :: Z) s H locs) => ?_)
  refine lv_aload_n hx hb dJ39_init_5 rfl (lv_at hl 0 rfl) ?_
  refine W.objInit hx hb hown (hts _ q2007) (hts _ q170) (hts _ q171) rfl (by rw [hml]; exact hl.1) rfl dJ39_init_6 (Nat.le_of_ble_eq_true rfl) (Nat.le_of_ble_eq_true rfl) ?_
  refine W.eq (g2 := F0 m 9 ls []) rfl ?_
  refine lv_aload_n hx hb dJ39_init_9 rfl (lv_at hl 0 rfl) ?_
  refine lv_aload_n hx hb dJ39_init_10 rfl (lv_at hl 0 rfl) ?_
  refine g_get (ci := 31) hx hb hts in_J39 hown hG (hG.at 0 rfl) rfl 3 (Nat.le_of_ble_eq_true rfl) (hts _ q2018) (fun _ h9 => h9) rfl dJ39_init_11 ?_
  have hG : gW X F V ((es, aR (gT X 10) 17 f) :: (it, oB 31 [.int (zI 0), .int (zI 0), .int (zI 0), .ref dq]) :: (dq, oB 30 [.ref es, .int (zI (h : Int)), .int (zI (t : Int))]) :: Z) s _ _ := hG.pull 2 rfl rfl
  have hG : gW X F V ((dq, oB 30 [.ref es, .int (zI (h : Int)), .int (zI (t : Int))]) :: (es, aR (gT X 10) 17 f) :: (it, oB 31 [.int (zI 0), .int (zI 0), .int (zI 0), .ref dq]) :: Z) s _ _ := hG.pull 2 rfl rfl
  refine g_ci (va_runV (As := []) (rest := [.ref it]) ⟨hx, hb, hml, hown, hts⟩ (metJ36_size hdq) (cwV 0 hts (lw_V q2008 q2009 q2010 q139 q2011) rfl rfl rfl (by decide +kernel) ⟨Nat.le_of_ble_eq_true rfl, Nat.le_of_ble_eq_true rfl⟩) (g_preV hG (g_recv hG (hG.at 0 rfl) (ci := 30) rfl)) rfl rfl hl.1 rfl (lv_room (Nat.le_of_ble_eq_true rfl)) dJ39_init_14 ⟨Nat.le_of_ble_eq_true rfl, Nat.le_of_ble_eq_true rfl⟩) hG (fun r_1 F_2 V_3 ws_ H locs hp hG => ?_)
  obtain ⟨rfl, rfl, rfl, rfl⟩ := hp
  have hG : gW X F V ((dq, oB 30 [.ref es, .int (zI (h : Int)), .int (zI (t : Int))]) :: (es, aR (gT X 10) 17 f) :: (it, oB 31 [.int (zI 0), .int (zI 0), .int (zI 0), .ref dq]) :: Z) s H locs := hG
  refine g_put (ci := 31) hx hb hts in_J39 tyJ39 tyJ39_ok nmJ39 hown hG 2 rfl rfl 1 (Nat.le_of_ble_eq_true rfl) (hts _ q2016) (fun _ h9 => h9) rfl (tyJ39_ok 1 (Nat.le_of_ble_eq_true rfl)) rfl rfl (Nat.le_of_ble_eq_true rfl) dJ39_init_17 (fun H locs (hG : gW X F V ((dq, oB 30 [.ref es, .int (zI (h : Int)), .int (zI (t : Int))]) :: (es, aR (gT X 10) 17 f) :: (it, oB 31 [.int (zI 0), .int (zI (L.length : Int)), .int (zI 0), .ref dq]) :: Z) s H locs) => ?_)
  refine lv_aload_n hx hb dJ39_init_20 rfl (lv_at hl 0 rfl) ?_
  refine lv_iconst (v := zI (-1)) hx hb dJ39_init_21 (by decide +kernel) ?_
  refine g_put (ci := 31) hx hb hts in_J39 tyJ39 tyJ39_ok nmJ39 hown hG 2 rfl rfl 2 (Nat.le_of_ble_eq_true rfl) (hts _ q2017) (fun _ h9 => h9) rfl (tyJ39_ok 2 (Nat.le_of_ble_eq_true rfl)) rfl rfl (Nat.le_of_ble_eq_true rfl) dJ39_init_22 (fun H locs (hG : gW X F V ((dq, oB 30 [.ref es, .int (zI (h : Int)), .int (zI (t : Int))]) :: (es, aR (gT X 10) 17 f) :: (it, oB 31 [.int (zI 0), .int (zI (L.length : Int)), .int (zI (-1)), .ref dq]) :: Z) s H locs) => ?_)
  refine lv_aload_n hx hb dJ39_init_25 rfl (lv_at hl 0 rfl) ?_
  refine lv_aload_n hx hb dJ39_init_26 rfl (lv_at hl 1 rfl) ?_
  refine g_get (ci := 30) hx hb hts in_J36 hown hG (hG.at 0 rfl) rfl 1 (Nat.le_of_ble_eq_true rfl) (hts _ q1969) (fun _ h9 => h9) rfl dJ39_init_27 ?_
  refine g_put (ci := 31) hx hb hts in_J39 tyJ39 tyJ39_ok nmJ39 hown hG 2 rfl rfl 0 (Nat.le_of_ble_eq_true rfl) (hts _ q2015) (fun _ h9 => h9) rfl (tyJ39_ok 0 (Nat.le_of_ble_eq_true rfl)) rfl rfl (Nat.le_of_ble_eq_true rfl) dJ39_init_30 (fun H locs (hG : gW X F V ((dq, oB 30 [.ref es, .int (zI (h : Int)), .int (zI (t : Int))]) :: (es, aR (gT X 10) 17 f) :: (it, oB 31 [.int (zI (h : Int)), .int (zI (L.length : Int)), .int (zI (-1)), .ref dq]) :: Z) s H locs) => ?_)
  have hG : gW X F V ((es, aR (gT X 10) 17 f) :: (dq, oB 30 [.ref es, .int (zI (h : Int)), .int (zI (t : Int))]) :: (it, oB 31 [.int (zI (h : Int)), .int (zI (L.length : Int)), .int (zI (-1)), .ref dq]) :: Z) s _ _ := hG.pull 1 rfl rfl
  have hG : gW X F V ((dq, oB 30 [.ref es, .int (zI (h : Int)), .int (zI (t : Int))]) :: (es, aR (gT X 10) 17 f) :: (it, oB 31 [.int (zI (h : Int)), .int (zI (L.length : Int)), .int (zI (-1)), .ref dq]) :: Z) s _ _ := hG.pull 1 rfl rfl
  have hG : gW X F V ((it, oB 31 [.int (zI (h : Int)), .int (zI (L.length : Int)), .int (zI (-1)), .ref dq]) :: (dq, oB 30 [.ref es, .int (zI (h : Int)), .int (zI (t : Int))]) :: (es, aR (gT X 10) 17 f) :: Z) s _ _ := hG.pull 2 rfl rfl
  exact g_vret hx hb hr hlocks hG (⟨rfl, rfl, rfl⟩) ⟨Nat.le_of_ble_eq_true rfl, Nat.le_of_ble_eq_true rfl⟩ dJ39_init_33

set_option maxHeartbeats 4000000 in
theorem metJ36_iterator {l : Launch} {X : gX} {F : gF} {V : gV} {Z : va_W} {dq es h t : Nat} {f : Nat → Option Nat} {L : List Nat} (hdq : dqR f h t L) : Met l yJ36_iterator (ws_ yJ36_iterator cJ36_iterator 1 (some (FieldType.object "java/util/Iterator"))) ({ frames := 3, cells := 1, slots := 6, locals := 63 }) (gP X F V ((dq, oB 30 [.ref es, .int (zI (h : Int)), .int (zI (t : Int))]) :: (es, aR (gT X 10) 17 f) :: Z) [.ref dq]) (gQr X (fun it G U ws => F = G ∧ V = U ∧ ((it, oB 31 [.int (zI (h : Int)), .int (zI (L.length : Int)), .int (zI (-1)), .ref dq]) :: (dq, oB 30 [.ref es, .int (zI (h : Int)), .int (zI (t : Int))]) :: (es, aR (gT X 10) 17 f) :: Z) = ws)) 1 6 (gA X) := by
  refine Met.g (by decide) (Nat.le_of_ble_eq_true rfl) ?_
  intro p e s m below meth c ls hx hb hr hts hown hlocks hml hin hG hl
  have hl : lv_has ls 1 [(0, .ref dq)] := hl
  refine g_new (ci := 31) hx hb hts in_J39 tyJ39 tyJ39_ok hown (hts _ q2002) (hts _ q2003) (hts _ q144) hG rfl (fs := [.int (zI 0), .int (zI 0), .int (zI 0), .null]) rfl ⟨Nat.le_of_ble_eq_true rfl, Nat.le_of_ble_eq_true rfl⟩ dJ36_iterator_0 (fun it H (hG : gW X F V ((it, oB 31 [.int (zI 0), .int (zI 0), .int (zI 0), .null]) :: (dq, oB 30 [.ref es, .int (zI (h : Int)), .int (zI (t : Int))]) :: (es, aR (gT X 10) 17 f) :: Z) s H _) => ?_)
  refine lv_dup hx hb dJ36_iterator_3 rfl ?_
  refine lv_aload_n hx hb dJ36_iterator_4 rfl (lv_at hl 0 rfl) ?_
  refine g_cv (va_runI (As := [.ref dq]) (rest := [.ref it]) ⟨hx, hb, hml, hown, hts⟩ (metJ39_init hdq) (cwI 1 hts (lw_meth q2006) rfl rfl rfl (hts _ q144) (hts _ q2004) (hts _ q2005) rfl (by decide +kernel) ⟨Nat.le_of_ble_eq_true rfl, Nat.le_of_ble_eq_true rfl⟩) (g_preS hG) rfl rfl hl.1 rfl (lv_room (Nat.le_of_ble_eq_true rfl)) dJ36_iterator_5 ⟨Nat.le_of_ble_eq_true rfl, Nat.le_of_ble_eq_true rfl⟩) hG (fun F_2 V_3 ws_ H locs hp hG => ?_)
  obtain ⟨rfl, rfl, rfl⟩ := hp
  have hG : gW X F V ((it, oB 31 [.int (zI (h : Int)), .int (zI (L.length : Int)), .int (zI (-1)), .ref dq]) :: (dq, oB 30 [.ref es, .int (zI (h : Int)), .int (zI (t : Int))]) :: (es, aR (gT X 10) 17 f) :: Z) s H locs := hG
  exact g_rret hx hb hr (Or.inl ⟨_, rfl⟩) hlocks hG (⟨rfl, rfl, rfl⟩) ⟨Nat.le_of_ble_eq_true rfl, Nat.le_of_ble_eq_true rfl⟩ dJ36_iterator_8

set_option maxHeartbeats 4000000 in
theorem metJ39_hasNext {l : Launch} {X : gX} {F : gF} {V : gV} {Z : va_W} {it dq n : Nat} {cu la : Int} (hn : n < 1000) : Met l yJ39_hasNext (ws_ yJ39_hasNext cJ39_hasNext 1 (some FieldType.boolean)) ({ frames := 0, cells := 0, slots := 0, locals := 0 }) (gP X F V ((it, oB 31 [.int (zI cu), .int (zI (n : Int)), .int (zI la), .ref dq]) :: Z) [.ref it]) (gQi X (fun u G U ws => u = zI (bI (decide (0 < n))) ∧ F = G ∧ V = U ∧ ((it, oB 31 [.int (zI cu), .int (zI (n : Int)), .int (zI la), .ref dq]) :: Z) = ws)) 0 0 (gA X) := by
  refine Met.g (by decide) (Nat.le_of_ble_eq_true rfl) ?_
  intro p e s m below meth c ls hx hb hr hts hown hlocks hml hin hG hl
  have hl : lv_has ls 1 [(0, .ref it)] := hl
  refine lv_aload_n hx hb dJ39_hasNext_0 rfl (lv_at hl 0 rfl) ?_
  refine g_get (ci := 31) hx hb hts in_J39 hown hG (hG.at 0 rfl) rfl 1 (Nat.le_of_ble_eq_true rfl) (hts _ q2016) (fun _ h9 => h9) rfl dJ39_hasNext_1 ?_
  refine g_le (tgt := 11) hx hb dJ39_hasNext_4 (by decide) (by omega) (fun h1 => ?_) (fun h1 => ?_)
  · refine lv_iconst (v := zI 0) hx hb dJ39_hasNext_11 (by decide +kernel) ?_
    exact g_zret hx hb hr hlocks rfl hG (⟨by rw [decide_eq_false (by omega)]; rfl, rfl, rfl, rfl⟩) ⟨Nat.le_of_ble_eq_true rfl, Nat.le_of_ble_eq_true rfl⟩ dJ39_hasNext_12
  · refine lv_iconst (v := zI 1) hx hb dJ39_hasNext_7 (by decide +kernel) ?_
    refine lv_goto (tgt := 12) hx hb dJ39_hasNext_8 (by decide) ?_
    exact g_zret hx hb hr hlocks rfl hG (⟨by rw [decide_eq_true (by omega)]; rfl, rfl, rfl, rfl⟩) ⟨Nat.le_of_ble_eq_true rfl, Nat.le_of_ble_eq_true rfl⟩ dJ39_hasNext_12

set_option maxHeartbeats 4000000 in
theorem metJ36_nonNullElementAt {l : Launch} {X : gX} {F : gF} {V : gV} {Z : va_W} {es j a : Nat} {f : Nat → Option Nat} (hj : j < 17 ∧ f j = some a) : Met l yJ36_nonNullElementAt (ws_ yJ36_nonNullElementAt cJ36_nonNullElementAt 3 (some (FieldType.object "java/lang/Object"))) ({ frames := 0, cells := 0, slots := 0, locals := 0 }) (gP X F V ((es, aR (gT X 10) 17 f) :: Z) [.ref es, .int (zI (j : Int))]) (gQr X (fun u G U ws => u = a ∧ F = G ∧ V = U ∧ ((es, aR (gT X 10) 17 f) :: Z) = ws)) 0 0 (gA X) := by
  refine Met.g (by decide) (Nat.le_of_ble_eq_true rfl) ?_
  intro p e s m below meth c ls hx hb hr hts hown hlocks hml hin hG hl
  have hl : lv_has ls 3 [(0, .ref es), (1, .int (zI (j : Int)))] := hl
  refine lv_aload_n hx hb dJ36_nonNullElementAt_0 rfl (lv_at hl 0 rfl) ?_
  refine lv_iload_n hx hb dJ36_nonNullElementAt_1 rfl (lv_at hl 1 rfl) ?_
  refine g_aald hx hb hG 10 rfl rfl (hG.at 0 rfl) j ⟨rfl, by omega, by omega⟩ (v := .ref a) (congrArg va_rf hj.2) dJ36_nonNullElementAt_2 ?_
  refine lv_astore_n (lv' := [(2, .ref a), (0, .ref es), (1, .int (zI (j : Int)))]) hx hb dJ36_nonNullElementAt_3 rfl hl (by decide) rfl (fun ls hl => ?_)
  refine lv_aload_n hx hb dJ36_nonNullElementAt_4 rfl (lv_at hl 0 rfl) ?_
  refine lv_ifnonnull (tgt := 16) hx hb dJ36_nonNullElementAt_5 (by decide) ?_
  refine lv_aload_n hx hb dJ36_nonNullElementAt_16 rfl (lv_at hl 0 rfl) ?_
  exact g_rret hx hb hr (Or.inl ⟨_, rfl⟩) hlocks hG (⟨rfl, rfl, rfl, rfl⟩) ⟨Nat.le_of_ble_eq_true rfl, Nat.le_of_ble_eq_true rfl⟩ dJ36_nonNullElementAt_17

set_option maxHeartbeats 4000000 in
theorem metJ39_next {l : Launch} {X : gX} {F : gF} {V : gV} {Z : va_W} {it dq es h t k : Nat} {la : Int} {f : Nat → Option Nat} {L : List Nat} (hdq : dqR f h t L) (hk : k < L.length) : Met l yJ39_next (ws_ yJ39_next cJ39_next 3 (some (FieldType.object "java/lang/Object"))) ({ frames := 1, cells := 0, slots := 0, locals := 22 }) (gP X F V ((it, oB 31 [.int (zI (((h + k) % 17 : Nat) : Int)), .int (zI ((L.length - k : Nat) : Int)), .int (zI la), .ref dq]) :: (dq, oB 30 [.ref es, .int (zI (h : Int)), .int (zI (t : Int))]) :: (es, aR (gT X 10) 17 f) :: Z) [.ref it]) (gQr X (fun u G U ws => u = L.getD k 0 ∧ F = G ∧ V = U ∧ ((it, oB 31 [.int (zI (((h + (k + 1)) % 17 : Nat) : Int)), .int (zI ((L.length - (k + 1) : Nat) : Int)), .int (zI (((h + k) % 17 : Nat) : Int)), .ref dq]) :: (dq, oB 30 [.ref es, .int (zI (h : Int)), .int (zI (t : Int))]) :: (es, aR (gT X 10) 17 f) :: Z) = ws)) 0 0 (gA X) := by
  refine Met.g (by decide) (Nat.le_of_ble_eq_true rfl) ?_
  intro p e s m below meth c ls hx hb hr hts hown hlocks hml hin hG hl
  have hl : lv_has ls 3 [(0, .ref it)] := hl
  have hh := hdq.1
  have hl16 := hdq.2.2.1
  refine lv_aload_n hx hb dJ39_next_0 rfl (lv_at hl 0 rfl) ?_
  refine g_get (ci := 31) hx hb hts in_J39 hown hG (hG.at 0 rfl) rfl 1 (Nat.le_of_ble_eq_true rfl) (hts _ q2016) (fun _ h9 => h9) rfl dJ39_next_1 ?_
  refine g_gt (tgt := 15) hx hb dJ39_next_4 (by decide) (by omega) (fun h1 => ?_) (fun h1 => ?_)
  · refine lv_aload_n hx hb dJ39_next_15 rfl (lv_at hl 0 rfl) ?_
    refine g_get (ci := 31) hx hb hts in_J39 hown hG (hG.at 0 rfl) rfl 3 (Nat.le_of_ble_eq_true rfl) (hts _ q2018) (fun _ h9 => h9) rfl dJ39_next_16 ?_
    refine g_get (ci := 30) hx hb hts in_J36 hown hG (hG.at 1 rfl) rfl 0 (Nat.le_of_ble_eq_true rfl) (hts _ q1968) (fun _ h9 => h9) rfl dJ39_next_19 ?_
    refine lv_astore_n (lv' := [(1, .ref es), (0, .ref it)]) hx hb dJ39_next_22 rfl hl (by decide) rfl (fun ls hl => ?_)
    refine lv_aload_n hx hb dJ39_next_23 rfl (lv_at hl 0 rfl) ?_
    refine lv_aload_n hx hb dJ39_next_24 rfl (lv_at hl 1 rfl) ?_
    refine g_get (ci := 31) hx hb hts in_J39 hown hG (hG.at 0 rfl) rfl 0 (Nat.le_of_ble_eq_true rfl) (hts _ q2015) (fun _ h9 => h9) rfl dJ39_next_25 ?_
    have hG : gW X F V ((es, aR (gT X 10) 17 f) :: (it, oB 31 [.int (zI (((h + k) % 17 : Nat) : Int)), .int (zI ((L.length - k : Nat) : Int)), .int (zI la), .ref dq]) :: (dq, oB 30 [.ref es, .int (zI (h : Int)), .int (zI (t : Int))]) :: Z) s _ _ := hG.pull 2 rfl rfl
    refine g_cr (va_runS (As := [.ref es, .int (zI (((h + k) % 17 : Nat) : Int))]) (rest := []) ⟨hx, hb, hml, hown, hts⟩ (metJ36_nonNullElementAt (a := L.getD k 0) ⟨by omega, hdq.2.2.2 k hk⟩) (va_cwS 2 hts (lw_S q1633 q1634 q139 q1635) rfl rfl rfl (by decide +kernel) ⟨Nat.le_of_ble_eq_true rfl, Nat.le_of_ble_eq_true rfl⟩) (g_preS hG) rfl rfl hl.1 rfl (lv_room (Nat.le_of_ble_eq_true rfl)) dJ39_next_28 ⟨Nat.le_of_ble_eq_true rfl, Nat.le_of_ble_eq_true rfl⟩) hG (fun r_1 F_2 V_3 ws_ H locs hp hG => ?_)
    obtain ⟨rfl, rfl, rfl, rfl⟩ := hp
    have hG : gW X F V ((es, aR (gT X 10) 17 f) :: (it, oB 31 [.int (zI (((h + k) % 17 : Nat) : Int)), .int (zI ((L.length - k : Nat) : Int)), .int (zI la), .ref dq]) :: (dq, oB 30 [.ref es, .int (zI (h : Int)), .int (zI (t : Int))]) :: Z) s H locs := hG
    refine lv_astore_n (lv' := [(2, .ref (L.getD k 0)), (1, .ref es), (0, .ref it)]) hx hb dJ39_next_31 rfl hl (by decide) rfl (fun ls hl => ?_)
    refine lv_aload_n hx hb dJ39_next_32 rfl (lv_at hl 2 rfl) ?_
    refine lv_aload_n hx hb dJ39_next_33 rfl (lv_at hl 2 rfl) ?_
    refine lv_aload_n hx hb dJ39_next_34 rfl (lv_at hl 2 rfl) ?_
    refine g_get (ci := 31) hx hb hts in_J39 hown hG (hG.at 1 rfl) rfl 0 (Nat.le_of_ble_eq_true rfl) (hts _ q2015) (fun _ h9 => h9) rfl dJ39_next_35 ?_
    refine lv_dup_x1 hx hb dJ39_next_38 rfl rfl ?_
    refine g_put (ci := 31) hx hb hts in_J39 tyJ39 tyJ39_ok nmJ39 hown hG 1 rfl rfl 2 (Nat.le_of_ble_eq_true rfl) (hts _ q2017) (fun _ h9 => h9) rfl (tyJ39_ok 2 (Nat.le_of_ble_eq_true rfl)) rfl rfl (Nat.le_of_ble_eq_true rfl) dJ39_next_39 (fun H locs (hG : gW X F V ((es, aR (gT X 10) 17 f) :: (it, oB 31 [.int (zI (((h + k) % 17 : Nat) : Int)), .int (zI ((L.length - k : Nat) : Int)), .int (zI (((h + k) % 17 : Nat) : Int)), .ref dq]) :: (dq, oB 30 [.ref es, .int (zI (h : Int)), .int (zI (t : Int))]) :: Z) s H locs) => ?_)
    refine lv_aload_n hx hb dJ39_next_42 rfl (lv_at hl 1 rfl) ?_
    refine g_alen hx hb hG 10 rfl (hG.at 0 rfl) dJ39_next_43 ?_
    refine g_topz (y := 17) rfl ?_
    refine g_ci (va_runS (As := [.int (zI (((h + k) % 17 : Nat) : Int)), .int (zI 17)]) (rest := [.ref it]) ⟨hx, hb, hml, hown, hts⟩ (metJ36_inc (i := (h + k) % 17) (by omega)) (va_cwS 2 hts (lw_S q1636 q1637 q139 q1638) rfl rfl rfl (by decide +kernel) ⟨Nat.le_of_ble_eq_true rfl, Nat.le_of_ble_eq_true rfl⟩) (g_preS hG) rfl rfl hl.1 rfl (lv_room (Nat.le_of_ble_eq_true rfl)) dJ39_next_44 ⟨Nat.le_of_ble_eq_true rfl, Nat.le_of_ble_eq_true rfl⟩) hG (fun r_4 F_5 V_6 ws_ H locs hp hG => ?_)
    obtain ⟨rfl, rfl, rfl, rfl⟩ := hp
    have hG : gW X F V ((es, aR (gT X 10) 17 f) :: (it, oB 31 [.int (zI (((h + k) % 17 : Nat) : Int)), .int (zI ((L.length - k : Nat) : Int)), .int (zI (((h + k) % 17 : Nat) : Int)), .ref dq]) :: (dq, oB 30 [.ref es, .int (zI (h : Int)), .int (zI (t : Int))]) :: Z) s H locs := hG
    refine g_topz (y := (((h + (k + 1)) % 17 : Nat) : Int)) (by omega) ?_
    refine g_put (ci := 31) hx hb hts in_J39 tyJ39 tyJ39_ok nmJ39 hown hG 1 rfl rfl 0 (Nat.le_of_ble_eq_true rfl) (hts _ q2015) (fun _ h9 => h9) rfl (tyJ39_ok 0 (Nat.le_of_ble_eq_true rfl)) rfl rfl (Nat.le_of_ble_eq_true rfl) dJ39_next_47 (fun H locs (hG : gW X F V ((es, aR (gT X 10) 17 f) :: (it, oB 31 [.int (zI (((h + (k + 1)) % 17 : Nat) : Int)), .int (zI ((L.length - k : Nat) : Int)), .int (zI (((h + k) % 17 : Nat) : Int)), .ref dq]) :: (dq, oB 30 [.ref es, .int (zI (h : Int)), .int (zI (t : Int))]) :: Z) s H locs) => ?_)
    refine lv_aload_n hx hb dJ39_next_50 rfl (lv_at hl 2 rfl) ?_
    refine lv_dup hx hb dJ39_next_51 rfl ?_
    refine g_get (ci := 31) hx hb hts in_J39 hown hG (hG.at 1 rfl) rfl 1 (Nat.le_of_ble_eq_true rfl) (hts _ q2016) (fun _ h9 => h9) rfl dJ39_next_52 ?_
    refine lv_iconst (v := zI 1) hx hb dJ39_next_55 (by decide +kernel) ?_
    refine g_isub hx hb dJ39_next_56 ?_
    refine g_topz (y := ((L.length - (k + 1) : Nat) : Int)) (by omega) ?_
    refine g_put (ci := 31) hx hb hts in_J39 tyJ39 tyJ39_ok nmJ39 hown hG 1 rfl rfl 1 (Nat.le_of_ble_eq_true rfl) (hts _ q2016) (fun _ h9 => h9) rfl (tyJ39_ok 1 (Nat.le_of_ble_eq_true rfl)) rfl rfl (Nat.le_of_ble_eq_true rfl) dJ39_next_57 (fun H locs (hG : gW X F V ((es, aR (gT X 10) 17 f) :: (it, oB 31 [.int (zI (((h + (k + 1)) % 17 : Nat) : Int)), .int (zI ((L.length - (k + 1) : Nat) : Int)), .int (zI (((h + k) % 17 : Nat) : Int)), .ref dq]) :: (dq, oB 30 [.ref es, .int (zI (h : Int)), .int (zI (t : Int))]) :: Z) s H locs) => ?_)
    refine lv_aload_n hx hb dJ39_next_60 rfl (lv_at hl 0 rfl) ?_
    have hG : gW X F V ((dq, oB 30 [.ref es, .int (zI (h : Int)), .int (zI (t : Int))]) :: (es, aR (gT X 10) 17 f) :: (it, oB 31 [.int (zI (((h + (k + 1)) % 17 : Nat) : Int)), .int (zI ((L.length - (k + 1) : Nat) : Int)), .int (zI (((h + k) % 17 : Nat) : Int)), .ref dq]) :: Z) s _ _ := hG.pull 2 rfl rfl
    have hG : gW X F V ((it, oB 31 [.int (zI (((h + (k + 1)) % 17 : Nat) : Int)), .int (zI ((L.length - (k + 1) : Nat) : Int)), .int (zI (((h + k) % 17 : Nat) : Int)), .ref dq]) :: (dq, oB 30 [.ref es, .int (zI (h : Int)), .int (zI (t : Int))]) :: (es, aR (gT X 10) 17 f) :: Z) s _ _ := hG.pull 2 rfl rfl
    exact g_rret hx hb hr (Or.inl ⟨_, rfl⟩) hlocks hG (⟨rfl, rfl, rfl, rfl⟩) ⟨Nat.le_of_ble_eq_true rfl, Nat.le_of_ble_eq_true rfl⟩ dJ39_next_61
  · exfalso; omega

