set_option maxRecDepth 100000
section G16
variable {s : State} {H : Heap} {locs : List Loc} {X : gX} {F : gF} {V : gV} {ws : va_W}
theorem arr_recv (hG : gW X F V ws s H locs) {a n : Nat} {f : Nat → Option Nat} (hat : va_at X.1 gCL (a, aR (gT X 10) n f) H) : ∃ cell : Cell, H[a]? = some cell ∧ cell.vm.isStatics = false ∧ s.vm.findClass "[Ljava/lang/Object;" = some cell.cls := ⟨_, hat, rfl, va_nmO (hG.K.2 10 _ rfl).2 (by decide +kernel)⟩
/-- what the lists hold: lines, small Integers -/
def isEl (X : gX) (F : gF) (y : Nat) : Prop := (∃ cs, isLine X F y cs) ∨ ∃ k, k < 256 ∧ y = ga X k
theorem isEl.mono {F G : gF} {y : Nat} (h : isEl X F y) (hl : gLe F G) : isEl X G y := h.elim (fun ⟨cs, k⟩ => Or.inl ⟨cs, k.mono hl⟩) Or.inr
theorem el_cast (hG : gW X F V ws s H locs) {y : Nat} (h : isEl X F y) : ∃ C : String, (∃ cell : Cell, H[y]? = some cell ∧ cell.vm.isStatics = false ∧ s.vm.findClass C = some cell.cls) ∧ ∀ comp c0 : ClassId, s.vm.findClass "java/lang/Object" = some comp → s.vm.findClass C = some c0 → s.vm.assignable c0 comp = true := by
  rcases h with ⟨cs, h⟩ | ⟨k, h1, rfl⟩
  · exact ⟨_, h.recv hG, cast_asg (hG.1.2.1.1 _ qn3799)⟩
  · exact ⟨_, g_int_recv hG h1, cast_asg (hG.1.2.1.1 _ qn3802)⟩
theorem el_any (hG : gW X F V ws s H locs) {y : Nat} (h : isEl X F y) : va_Any "java/lang/Object" s H y := by
  obtain ⟨C, ⟨cell, h1, h2, h3⟩, h4⟩ := el_cast hG h
  obtain ⟨kC, hkC, -⟩ := Vm.findClass_spec h3
  exact ⟨cell, h1, h2, ⟨kC, hkC⟩, fun comp hc => h4 comp _ hc h3⟩
end G16
/-- an array list's contents -/
def alR (f : Nat → Option Nat) (cap : Nat) (L : List Nat) : Prop := L.length ≤ cap ∧ (1 ≤ cap ∧ cap ≤ 40) ∧ (∀ i, i < L.length → f i = some (L.getD i 0)) ∧ ∀ i, L.length ≤ i → f i = none
theorem alR.el {X : gX} {F : gF} {f : Nat → Option Nat} {cap : Nat} {L : List Nat} (h : alR f cap L) (hL : ∀ y ∈ L, isEl X F y) {i y : Nat} (hi : f i = some y) : isEl X F y := by
  rcases Nat.lt_or_ge i L.length with q | q
  · rw [h.2.2.1 i q] at hi
    cases hi
    rw [List.getD_eq_getElem?_getD, List.getElem?_eq_getElem q]
    exact hL _ (List.getElem_mem q)
  · rw [h.2.2.2 i q] at hi; cases hi
theorem alR.add {f : Nat → Option Nat} {cap e : Nat} {L : List Nat} (h : alR f cap L) (hc : L.length + 1 ≤ cap) : alR (va_up f L.length (some e)) cap (L ++ [e]) := by
  obtain ⟨h1, h2, h3, h4⟩ := h
  refine ⟨by rw [List.length_append]; exact hc, h2, fun i hi => ?_, fun i hi => ?_⟩
  · rw [List.length_append] at hi
    have hi : i < L.length + 1 := hi
    rcases Nat.lt_or_ge i L.length with q | q
    · rw [va_up_ne _ _ (by omega), h3 i q, List.getD_eq_getElem?_getD, List.getD_eq_getElem?_getD, List.getElem?_append_left q]
    · have e9 : i = L.length := by omega
      subst e9
      rw [va_up_self, List.getD_eq_getElem?_getD, List.getElem?_append_right (Nat.le_refl _), Nat.sub_self]; rfl
  · rw [List.length_append] at hi
    have hi : L.length + 1 ≤ i := hi
    rw [va_up_ne _ _ (by omega)]; exact h4 i (by omega)
theorem alR.grow {f : Nat → Option Nat} {cap cap2 : Nat} {L : List Nat} (h : alR f cap L) (hc : cap ≤ cap2 ∧ cap2 ≤ 40) : alR (va_cpy f (fun _ => none) 0 0 cap) cap2 L := by
  obtain ⟨h1, h2, h3, h4⟩ := h
  refine ⟨by omega, by omega, fun i hi => ?_, fun i hi => ?_⟩
  · show (if 0 ≤ i ∧ i < 0 + cap then f (0 + (i - 0)) else none) = _
    rw [if_pos (by omega), Nat.sub_zero, Nat.zero_add]; exact h3 i hi
  · show (if 0 ≤ i ∧ i < 0 + cap then f (0 + (i - 0)) else none) = _
    split
    · rw [Nat.sub_zero, Nat.zero_add]; exact h4 i hi
    · rfl
theorem alR.one {e : Nat} : alR (va_up (fun _ => none) 0 (some e)) 10 [e] := alR.add (f := fun _ => none) (L := []) ⟨by decide, by decide, fun i hi => absurd hi (Nat.not_lt_zero i), fun _ _ => rfl⟩ (by decide)
/-- an array list of lines -/
def alT (X : gX) (F : gF) (L : List Nat) (t : Tx) : Prop := L.length = t.length ∧ ∀ i, i < t.length → isLine X F (L.getD i 0) (t.getD i [])
theorem alT.mono {X : gX} {F G : gF} {L : List Nat} {t : Tx} (h : alT X F L t) (hl : gLe F G) : alT X G L t := ⟨h.1, fun i hi => (h.2 i hi).mono hl⟩
theorem alT.el {X : gX} {F : gF} {L : List Nat} {t : Tx} (h : alT X F L t) : ∀ y ∈ L, isEl X F y := fun y hy => by
  obtain ⟨i, hi⟩ := List.getElem?_of_mem hy
  have hil := (List.getElem?_eq_some_iff.mp hi).1
  have := h.2 i (by rw [← h.1]; exact hil)
  rw [List.getD_eq_getElem?_getD, hi] at this
  exact Or.inl ⟨_, this⟩
theorem alT.app {X : gX} {F : gF} {L : List Nat} {t : Tx} {e : Nat} {c : Ln} (h : alT X F L t) (hl : isLine X F e c) : alT X F (L ++ [e]) (t ++ [c]) := by
  refine ⟨by rw [List.length_append, List.length_append, h.1]; rfl, fun i hi => ?_⟩
  rw [List.length_append] at hi
  have hi : i < t.length + 1 := hi
  rcases Nat.lt_or_ge i t.length with q | q
  · rw [gD_app, if_pos q, List.getD_eq_getElem?_getD, List.getElem?_append_left (by rw [h.1]; exact q), ← List.getD_eq_getElem?_getD]
    exact h.2 i q
  · have e9 : i = t.length := by omega
    subst e9
    rw [gD_app, if_neg (Nat.lt_irrefl _), Nat.sub_self, List.getD_eq_getElem?_getD, List.getElem?_append_right (by rw [h.1]; exact Nat.le_refl _), h.1, Nat.sub_self]
    exact hl
theorem alT.text {X : gX} {F G : gF} {L : List Nat} {t : Tx} {a : Nat} {f : Nat → Option Nat} (h : alT X F L t) (hl : gLe F G) (h24 : t.length ≤ 24) (hr : G.1 a = some (aR (gT X 6) L.length f)) (hf : ∀ i, i < L.length → f i = some (L.getD i 0)) : isText X G a t := by
  rw [h.1] at hr
  refine ⟨f, hr, h24, fun i cs hi => ?_⟩
  have hil := (List.getElem?_eq_some_iff.mp hi).1
  refine ⟨L.getD i 0, hf i (by rw [h.1]; exact hil), ?_⟩
  have := h.2 i hil
  have e9 : t.getD i [] = cs := by rw [List.getD_eq_getElem?_getD, hi]; rfl
  rw [e9] at this
  exact this.mono hl
set_option maxHeartbeats 4000000 in
theorem metJ18_init_a {l : Launch} {X : gX} {F : gF} {V : gV} {Z : va_W} {a : Nat} : Met l yJ18_init (ws_ yJ18_init cJ18_init 1 none) ({ frames := 2, cells := 0, slots := 0, locals := 40 }) (gP X F V ((a, oB 25 [.int (zI 0), .null, .int (zI 0)]) :: Z) [.ref a]) (gQv X (fun G U ws => F = G ∧ V = U ∧ ((a, oB 25 [.int (zI 0), .null, .int (zI 0)]) :: Z) = ws)) 0 0 (gA X) := by
  refine Met.g (by decide) (Nat.le_of_ble_eq_true rfl) ?_
  intro p e s m below meth c ls hx hb hr hts hown hlocks hml hin hG hl
  have hl : lv_has ls 1 [(0, .ref a)] := hl
  refine lv_aload_n hx hb dJ18_init_0 rfl (lv_at hl 0 rfl) ?_
  refine g_cv (va_runI (As := []) (rest := []) ⟨hx, hb, hml, hown, hts⟩ (metJ5_init) (cwI 0 hts (lw_meth q295) rfl rfl rfl (hts _ q95) (hts _ q759) (hts _ q294) rfl (by decide +kernel) ⟨Nat.le_of_ble_eq_true rfl, Nat.le_of_ble_eq_true rfl⟩) (g_preS hG) rfl rfl hl.1 rfl (lv_room (Nat.le_of_ble_eq_true rfl)) dJ18_init_1 ⟨Nat.le_of_ble_eq_true rfl, Nat.le_of_ble_eq_true rfl⟩) hG (fun F_2 V_3 ws_ H locs hp hG => ?_)
  obtain ⟨rfl, rfl, rfl⟩ := hp
  have hG : gW X F V ((a, oB 25 [.int (zI 0), .null, .int (zI 0)]) :: Z) s H locs := hG
  refine lv_aload_n hx hb dJ18_init_4 rfl (lv_at hl 0 rfl) ?_
  refine lv_iconst (v := zI 0) hx hb dJ18_init_5 (by decide +kernel) ?_
  refine g_put (ci := 25) hx hb hts in_J19 tyJ19 tyJ19_ok nmJ19 hown hG 0 rfl rfl 0 (Nat.le_of_ble_eq_true rfl) (hts _ q766) (fun _ h9 => h9) rfl (tyJ19_ok 0 (Nat.le_of_ble_eq_true rfl)) rfl rfl (Nat.le_of_ble_eq_true rfl) dJ18_init_6 (fun H locs (hG : gW X F V ((a, oB 25 [.int (zI 0), .null, .int (zI 0)]) :: Z) s H locs) => ?_)
  exact g_vret hx hb hr hlocks hG (⟨rfl, rfl, rfl⟩) ⟨Nat.le_of_ble_eq_true rfl, Nat.le_of_ble_eq_true rfl⟩ dJ18_init_9

set_option maxHeartbeats 4000000 in
theorem metJ19_init {l : Launch} {X : gX} {F : gF} {V : gV} {Z : va_W} {al : Nat} : Met l yJ19_init (ws_ yJ19_init cJ19_init 1 none) ({ frames := 3, cells := 0, slots := 0, locals := 60 }) (gP X F V ((al, oB 25 [.int (zI 0), .null, .int (zI 0)]) :: Z) [.ref al]) (gQv X (fun G U ws => F = G ∧ V = U ∧ ((al, oB 25 [.int (zI 0), .ref (ga X 300), .int (zI 0)]) :: Z) = ws)) 0 0 (gA X) := by
  refine Met.g (by decide) (Nat.le_of_ble_eq_true rfl) ?_
  intro p e s m below meth c ls hx hb hr hts hown hlocks hml hin hG hl
  have hl : lv_has ls 1 [(0, .ref al)] := hl
  refine lv_aload_n hx hb dJ19_init_0 rfl (lv_at hl 0 rfl) ?_
  refine g_cv (va_runI (As := []) (rest := []) ⟨hx, hb, hml, hown, hts⟩ (metJ18_init_a) (cwI 0 hts (lw_meth q758) rfl rfl rfl (hts _ q119) (hts _ q756) (hts _ q757) rfl (by decide +kernel) ⟨Nat.le_of_ble_eq_true rfl, Nat.le_of_ble_eq_true rfl⟩) (g_preS hG) rfl rfl hl.1 rfl (lv_room (Nat.le_of_ble_eq_true rfl)) dJ19_init_1 ⟨Nat.le_of_ble_eq_true rfl, Nat.le_of_ble_eq_true rfl⟩) hG (fun F_2 V_3 ws_ H locs hp hG => ?_)
  obtain ⟨rfl, rfl, rfl⟩ := hp
  have hG : gW X F V ((al, oB 25 [.int (zI 0), .null, .int (zI 0)]) :: Z) s H locs := hG
  refine lv_aload_n hx hb dJ19_init_4 rfl (lv_at hl 0 rfl) ?_
  refine va_gets hx hb hG.1.2.2.2.2.2.2.1 hG.2.2 hown (hts _ q760) (fun _ h9 => h9) dJ19_init_5 ?_
  refine g_put (ci := 25) hx hb hts in_J19 tyJ19 tyJ19_ok nmJ19 hown hG 0 rfl rfl 1 (Nat.le_of_ble_eq_true rfl) (hts _ q762) (fun _ h9 => h9) rfl (tyJ19_ok 1 (Nat.le_of_ble_eq_true rfl)) rfl rfl (Nat.le_of_ble_eq_true rfl) dJ19_init_8 (fun H locs (hG : gW X F V ((al, oB 25 [.int (zI 0), .ref (ga X 300), .int (zI 0)]) :: Z) s H locs) => ?_)
  exact g_vret hx hb hr hlocks hG (⟨rfl, rfl, rfl⟩) ⟨Nat.le_of_ble_eq_true rfl, Nat.le_of_ble_eq_true rfl⟩ dJ19_init_11

set_option maxHeartbeats 4000000 in
theorem metJ22_copyOf_2 {l : Launch} {X : gX} {F : gF} {V : gV} {Z : va_W} {es n cap : Nat} {f : Nat → Option Nat} {L : List Nat} (hal : alR f cap L) (hel : ∀ y ∈ L, isEl X F y) (hn : cap ≤ n ∧ n ≤ 40) : Met l yJ22_copyOf_2 (ws_ yJ22_copyOf_2 cJ22_copyOf_2 4 (some (FieldType.array (FieldType.object "java/lang/Object")))) ({ frames := 1, cells := 1, slots := 40, locals := 38 }) (gP X F V ((es, aR (gT X 10) cap f) :: Z) [.ref es, .int (zI (n : Int)), .ref (ga X 312)]) (gQr X (fun u G U ws => F = G ∧ V = U ∧ ((u, aR (gT X 10) n (va_cpy f (fun _ => none) 0 0 cap)) :: (es, aR (gT X 10) cap f) :: Z) = ws)) 1 40 (gA X) := by
  refine Met.g (by decide) (Nat.le_of_ble_eq_true rfl) ?_
  intro p e s m below meth c ls hx hb hr hts hown hlocks hml hin hG hl
  have hl : lv_has ls 4 [(0, .ref es), (1, .int (zI (n : Int))), (2, .ref (ga X 312))] := hl
  have hcp := hal.2.1
  refine lv_aload_n hx hb dJ22_copyOf_2_0 rfl (lv_at hl 2 rfl) ?_
  refine va_ldcM hx hb hown (hts _ q908) (gW_xt hG).2.2.1.2.2.1 dJ22_copyOf_2_1 ?_
  refine lv_acmp_ne (rx := (some (ga X 312))) (ry := (some (ga X 312))) (tgt := 13) hx hb dJ22_copyOf_2_3 (by decide) (fun h1 => ?_) (fun h1 => ?_)
  · exact absurd rfl h1
  · refine lv_iload_n hx hb dJ22_copyOf_2_6 rfl (lv_at hl 1 rfl) ?_
    refine g_newq hx hb hown (hts _ q909) (hG.1.2.1.2.1 "java/lang/Object" (by decide)) 10 rfl hG (N := n) ⟨rfl, by omega⟩ ⟨by show _ ≤ 1; omega, by show _ ≤ 40; omega⟩ dJ22_copyOf_2_7 (fun q9 H (hG : gW X F V ((q9, aR (gT X 10) n (fun _ => none)) :: (es, aR (gT X 10) cap f) :: Z) s H _) => ?_)
    refine lv_goto (tgt := 24) hx hb dJ22_copyOf_2_10 (by decide) ?_
    refine lv_astore_n (lv' := [(3, .ref q9), (0, .ref es), (1, .int (zI (n : Int))), (2, .ref (ga X 312))]) hx hb dJ22_copyOf_2_24 rfl hl (by decide) rfl (fun ls hl => ?_)
    refine lv_aload_n hx hb dJ22_copyOf_2_25 rfl (lv_at hl 1 rfl) ?_
    refine lv_iconst (v := zI 0) hx hb dJ22_copyOf_2_26 (by decide +kernel) ?_
    refine lv_aload_n hx hb dJ22_copyOf_2_27 rfl (lv_at hl 0 rfl) ?_
    refine lv_iconst (v := zI 0) hx hb dJ22_copyOf_2_28 (by decide +kernel) ?_
    refine lv_aload_n hx hb dJ22_copyOf_2_29 rfl (lv_at hl 1 rfl) ?_
    refine g_alen hx hb hG 10 rfl (hG.at 1 rfl) dJ22_copyOf_2_30 ?_
    refine lv_iload_n hx hb dJ22_copyOf_2_31 rfl (lv_at hl 2 rfl) ?_
    refine g_min hx hb (hml.trans hl.1.symm) hts hown (hts _ q910) ⟨Nat.le_of_ble_eq_true rfl, Nat.le_of_ble_eq_true rfl, (by show _ ≤ 1; omega), (by show _ ≤ 40; omega)⟩ (by omega) dJ22_copyOf_2_32 ?_
    refine g_topz (y := (cap : Int)) (by omega) ?_
    refine g_copyQ hx hb (hml.trans hl.1.symm) hown (hts _ q913) (hts _ q676) (hts _ q675) (hts _ q117) hG 10 rfl (hG.at 1 rfl) 0 rfl 0 0 cap ⟨rfl, rfl, rfl, by omega, by omega, by omega, by omega⟩ (fun i9 hi9 y9 hy9 => el_any hG (hal.el hel hy9)) ⟨Nat.le_of_ble_eq_true rfl, Nat.le_of_ble_eq_true rfl⟩ dJ22_copyOf_2_35 (fun H locs (hG : gW X F V ((q9, aR (gT X 10) n (va_cpy f (fun _ => none) 0 0 cap)) :: (es, aR (gT X 10) cap f) :: Z) s H locs) => ?_)
    refine lv_aload_n hx hb dJ22_copyOf_2_38 rfl (lv_at hl 0 rfl) ?_
    exact g_rret hx hb hr (Or.inr ⟨_, rfl⟩) hlocks hG (⟨rfl, rfl, rfl⟩) ⟨by show _ ≤ 1; omega, by show _ ≤ 40; omega⟩ dJ22_copyOf_2_39

set_option maxHeartbeats 4000000 in
theorem metJ22_copyOf {l : Launch} {X : gX} {F : gF} {V : gV} {Z : va_W} {es n cap : Nat} {f : Nat → Option Nat} {L : List Nat} (hal : alR f cap L) (hel : ∀ y ∈ L, isEl X F y) (hn : cap ≤ n ∧ n ≤ 40) : Met l yJ22_copyOf (ws_ yJ22_copyOf cJ22_copyOf 2 (some (FieldType.array (FieldType.object "java/lang/Object")))) ({ frames := 2, cells := 1, slots := 40, locals := 61 }) (gP X F V ((es, aR (gT X 10) cap f) :: Z) [.ref es, .int (zI (n : Int))]) (gQr X (fun u G U ws => F = G ∧ V = U ∧ ((u, aR (gT X 10) n (va_cpy f (fun _ => none) 0 0 cap)) :: (es, aR (gT X 10) cap f) :: Z) = ws)) 1 40 (gA X) := by
  refine Met.g (by decide) (Nat.le_of_ble_eq_true rfl) ?_
  intro p e s m below meth c ls hx hb hr hts hown hlocks hml hin hG hl
  have hl : lv_has ls 2 [(0, .ref es), (1, .int (zI (n : Int)))] := hl
  refine lv_aload_n hx hb dJ22_copyOf_0 rfl (lv_at hl 0 rfl) ?_
  refine lv_iload_n hx hb dJ22_copyOf_1 rfl (lv_at hl 1 rfl) ?_
  refine lv_aload_n hx hb dJ22_copyOf_2 rfl (lv_at hl 0 rfl) ?_
  refine va_getC hx hb (hml.trans hl.1.symm) hown (hts _ q904) (va_Nw.use rfl (hG.1.2.1.1 _ qn2745)) (hts _ q3850) (hts _ q221) (hts _ q275) (gW_xt hG).2.2.1.2.2.1 (arr_recv hG (hG.at 0 rfl)) (Nat.le_of_ble_eq_true rfl) (Nat.le_of_ble_eq_true rfl) dJ22_copyOf_3 ?_
  refine g_cr (va_runS (As := [.ref es, .int (zI (n : Int)), .ref (ga X 312)]) (rest := []) ⟨hx, hb, hml, hown, hts⟩ (metJ22_copyOf_2 hal hel hn) (va_cwS 3 hts (lw_S q905 q906 q125 q907) rfl rfl rfl (by decide +kernel) ⟨Nat.le_of_ble_eq_true rfl, Nat.le_of_ble_eq_true rfl⟩) (g_preS hG) rfl rfl hl.1 rfl (lv_room (Nat.le_of_ble_eq_true rfl)) dJ22_copyOf_6 ⟨Nat.le_of_ble_eq_true rfl, Nat.le_of_ble_eq_true rfl⟩) hG (fun q9 F_1 V_2 ws_ H locs hp hG => ?_)
  obtain ⟨rfl, rfl, rfl⟩ := hp
  have hG : gW X F V ((q9, aR (gT X 10) n (va_cpy f (fun _ => none) 0 0 cap)) :: (es, aR (gT X 10) cap f) :: Z) s H locs := hG
  exact g_rret hx hb hr (Or.inr ⟨_, rfl⟩) hlocks hG (⟨rfl, rfl, rfl⟩) ⟨Nat.le_of_ble_eq_true rfl, Nat.le_of_ble_eq_true rfl⟩ dJ22_copyOf_9

set_option maxHeartbeats 4000000 in
theorem metJ20_newLength {l : Launch} {X : gX} {F : gF} {V : gV} {Z : va_W} {cap h : Nat} (hc : cap ≤ 1000 ∧ h ≤ 1000) : Met l yJ20_newLength (ws_ yJ20_newLength cJ20_newLength 4 (some FieldType.int)) ({ frames := 1, cells := 0, slots := 0, locals := 21 }) (gP X F V (Z) [.int (zI (cap : Int)), .int (zI 1), .int (zI (h : Int))]) (gQi X (fun u G U ws => u = zI ((cap : Int) + max 1 (h : Int)) ∧ F = G ∧ V = U ∧ Z = ws)) 0 0 (gA X) := by
  refine Met.g (by decide) (Nat.le_of_ble_eq_true rfl) ?_
  intro p e s m below meth c ls hx hb hr hts hown hlocks hml hin hG hl
  have hl : lv_has ls 4 [(0, .int (zI (cap : Int))), (1, .int (zI 1)), (2, .int (zI (h : Int)))] := hl
  refine lv_iload_n hx hb dJ20_newLength_0 rfl (lv_at hl 0 rfl) ?_
  refine lv_iload_n hx hb dJ20_newLength_1 rfl (lv_at hl 1 rfl) ?_
  refine lv_iload_n hx hb dJ20_newLength_2 rfl (lv_at hl 2 rfl) ?_
  refine g_max hx hb (hml.trans hl.1.symm) hts hown (hts _ q894) ⟨Nat.le_of_ble_eq_true rfl, Nat.le_of_ble_eq_true rfl, Nat.le_of_ble_eq_true rfl, Nat.le_of_ble_eq_true rfl⟩ (by omega) dJ20_newLength_3 ?_
  refine g_iadd hx hb dJ20_newLength_6 ?_
  refine lv_istore_n (lv' := [(3, .int (zI ((cap : Int) + (max 1 (h : Int))))), (0, .int (zI (cap : Int))), (1, .int (zI 1)), (2, .int (zI (h : Int)))]) hx hb dJ20_newLength_7 rfl hl (by decide) rfl (fun ls hl => ?_)
  refine lv_iconst (v := zI 0) hx hb dJ20_newLength_8 (by decide +kernel) ?_
  refine lv_iload_n hx hb dJ20_newLength_9 rfl (lv_at hl 0 rfl) ?_
  refine g_cge (tgt := 21) hx hb dJ20_newLength_10 (by decide) (by omega) (fun h1 => ?_) (fun h1 => ?_)
  · exfalso; omega
  · refine lv_iload_n hx hb dJ20_newLength_13 rfl (lv_at hl 0 rfl) ?_
    refine lv_ldc (v := 2147483639) hx hb hown (hts _ q897) dJ20_newLength_14 ?_
    refine lv_topx (zI 2147483639) (by decide +kernel) ?_
    refine g_cgt (tgt := 21) hx hb dJ20_newLength_16 (by decide) (by omega) (fun h2 => ?_) (fun h2 => ?_)
    · exfalso; omega
    · refine lv_iload_n hx hb dJ20_newLength_19 rfl (lv_at hl 0 rfl) ?_
      exact g_iret hx hb hr hlocks hG (⟨rfl, rfl, rfl, rfl⟩) ⟨Nat.le_of_ble_eq_true rfl, Nat.le_of_ble_eq_true rfl⟩ dJ20_newLength_20

set_option maxHeartbeats 4000000 in
theorem metJ19_grow_2_z {l : Launch} {X : gX} {F : gF} {V : gV} {Z : va_W} {al : Nat} {mo : Int} : Met l yJ19_grow_2 (ws_ yJ19_grow_2 cJ19_grow_2 4 (some (FieldType.array (FieldType.object "java/lang/Object")))) ({ frames := 1, cells := 1, slots := 10, locals := 21 }) (gP X F V ((al, oB 25 [.int (zI mo), .ref (ga X 300), .int (zI 0)]) :: Z) [.ref al, .int (zI 1)]) (gQr X (fun u G U ws => F = G ∧ V = U ∧ ((al, oB 25 [.int (zI mo), .ref u, .int (zI 0)]) :: (u, aR (gT X 10) 10 (fun _ => none)) :: Z) = ws)) 1 10 (gA X) := by
  refine Met.g (by decide) (Nat.le_of_ble_eq_true rfl) ?_
  intro p e s m below meth c ls hx hb hr hts hown hlocks hml hin hG hl
  have hl : lv_has ls 4 [(0, .ref al), (1, .int (zI 1))] := hl
  refine lv_aload_n hx hb dJ19_grow_2_0 rfl (lv_at hl 0 rfl) ?_
  refine g_get (ci := 25) hx hb hts in_J19 hown hG (hG.at 0 rfl) rfl 1 (Nat.le_of_ble_eq_true rfl) (hts _ q762) (fun _ h9 => h9) rfl dJ19_grow_2_1 ?_
  refine va_tlen hx hb hG.1.2.2.2.2.2.2.2.1 hG.2.2 (v := zI 0) (by decide +kernel) dJ19_grow_2_4 ?_
  refine lv_istore_n (lv' := [(2, .int (zI 0)), (0, .ref al), (1, .int (zI 1))]) hx hb dJ19_grow_2_5 rfl hl (by decide) rfl (fun ls hl => ?_)
  refine lv_iload_n hx hb dJ19_grow_2_6 rfl (lv_at hl 0 rfl) ?_
  refine g_gt (tgt := 20) hx hb dJ19_grow_2_7 (by decide) (by decide) (fun h1 => ?_) (fun h1 => ?_)
  · exfalso; omega
  · refine lv_aload_n hx hb dJ19_grow_2_10 rfl (lv_at hl 1 rfl) ?_
    refine g_get (ci := 25) hx hb hts in_J19 hown hG (hG.at 0 rfl) rfl 1 (Nat.le_of_ble_eq_true rfl) (hts _ q762) (fun _ h9 => h9) rfl dJ19_grow_2_11 ?_
    refine va_gets hx hb hG.1.2.2.2.2.2.2.1 hG.2.2 hown (hts _ q760) (fun _ h9 => h9) dJ19_grow_2_14 ?_
    refine lv_acmp_eq (rx := (some (ga X 300))) (ry := (some (ga X 300))) (tgt := 45) hx hb dJ19_grow_2_17 (by decide) (fun h2 => ?_) (fun h2 => ?_)
    · refine lv_aload_n hx hb dJ19_grow_2_45 rfl (lv_at hl 1 rfl) ?_
      refine lv_bipush (v := zI 10) hx hb dJ19_grow_2_46 (by decide +kernel) ?_
      refine lv_iload_n hx hb dJ19_grow_2_48 rfl (lv_at hl 2 rfl) ?_
      refine g_max hx hb (hml.trans hl.1.symm) hts hown (hts _ q914) ⟨Nat.le_of_ble_eq_true rfl, Nat.le_of_ble_eq_true rfl, Nat.le_of_ble_eq_true rfl, Nat.le_of_ble_eq_true rfl⟩ (by omega) dJ19_grow_2_49 ?_
      refine g_topz (y := ((10 : Nat) : Int)) (by omega) ?_
      refine g_newq hx hb hown (hts _ q915) (hG.1.2.1.2.1 "java/lang/Object" (by decide)) 10 rfl hG (N := 10) ⟨rfl, by decide⟩ ⟨Nat.le_of_ble_eq_true rfl, Nat.le_of_ble_eq_true rfl⟩ dJ19_grow_2_52 (fun q9 H (hG : gW X F V ((q9, aR (gT X 10) 10 (fun _ => none)) :: (al, oB 25 [.int (zI mo), .ref (ga X 300), .int (zI 0)]) :: Z) s H _) => ?_)
      refine lv_dup_x1 hx hb dJ19_grow_2_55 rfl rfl ?_
      refine g_put (ci := 25) hx hb hts in_J19 tyJ19 tyJ19_ok nmJ19 hown hG 1 rfl rfl 1 (Nat.le_of_ble_eq_true rfl) (hts _ q762) (fun _ h9 => h9) rfl (tyJ19_ok 1 (Nat.le_of_ble_eq_true rfl)) rfl rfl (Nat.le_of_ble_eq_true rfl) dJ19_grow_2_56 (fun H locs (hG : gW X F V ((q9, aR (gT X 10) 10 (fun _ => none)) :: (al, oB 25 [.int (zI mo), .ref q9, .int (zI 0)]) :: Z) s H locs) => ?_)
      have hG : gW X F V ((al, oB 25 [.int (zI mo), .ref q9, .int (zI 0)]) :: (q9, aR (gT X 10) 10 (fun _ => none)) :: Z) s _ _ := hG.pull 1 rfl rfl
      exact g_rret hx hb hr (Or.inr ⟨_, rfl⟩) hlocks hG (⟨rfl, rfl, rfl⟩) ⟨Nat.le_of_ble_eq_true rfl, Nat.le_of_ble_eq_true rfl⟩ dJ19_grow_2_59
    · exact absurd rfl h2

set_option maxHeartbeats 4000000 in
theorem metJ19_grow_2_s {l : Launch} {X : gX} {F : gF} {V : gV} {Z : va_W} {al es cap : Nat} {n mo : Int} {f : Nat → Option Nat} {L : List Nat} (hal : alR f cap L) (hel : ∀ y ∈ L, isEl X F y) (hc : cap ≤ 24) : Met l yJ19_grow_2 (ws_ yJ19_grow_2 cJ19_grow_2 4 (some (FieldType.array (FieldType.object "java/lang/Object")))) ({ frames := 3, cells := 1, slots := 40, locals := 82 }) (gP X F V ((al, oB 25 [.int (zI mo), .ref es, .int (zI n)]) :: (es, aR (gT X 10) cap f) :: Z) [.ref al, .int (zI ((cap : Int) + 1))]) (gQr X (fun u G U ws => F = G ∧ V = U ∧ ((al, oB 25 [.int (zI mo), .ref u, .int (zI n)]) :: (u, aR (gT X 10) (cap + max 1 (cap / 2)) (va_cpy f (fun _ => none) 0 0 cap)) :: Z) = ws)) 1 40 (gA X) := by
  refine Met.g (by decide) (Nat.le_of_ble_eq_true rfl) ?_
  intro p e s m below meth c ls hx hb hr hts hown hlocks hml hin hG hl
  have hl : lv_has ls 4 [(0, .ref al), (1, .int (zI ((cap : Int) + 1)))] := hl
  have hcp := hal.2.1
  refine lv_aload_n hx hb dJ19_grow_2_0 rfl (lv_at hl 0 rfl) ?_
  refine g_get (ci := 25) hx hb hts in_J19 hown hG (hG.at 0 rfl) rfl 1 (Nat.le_of_ble_eq_true rfl) (hts _ q762) (fun _ h9 => h9) rfl dJ19_grow_2_1 ?_
  refine g_alen hx hb hG 10 rfl (hG.at 1 rfl) dJ19_grow_2_4 ?_
  refine lv_istore_n (lv' := [(2, .int (zI (cap : Nat))), (0, .ref al), (1, .int (zI ((cap : Int) + 1)))]) hx hb dJ19_grow_2_5 rfl hl (by decide) rfl (fun ls hl => ?_)
  refine lv_iload_n hx hb dJ19_grow_2_6 rfl (lv_at hl 0 rfl) ?_
  refine g_gt (tgt := 20) hx hb dJ19_grow_2_7 (by decide) (by omega) (fun h1 => ?_) (fun h1 => ?_)
  · refine lv_iload_n hx hb dJ19_grow_2_20 rfl (lv_at hl 0 rfl) ?_
    refine lv_iload_n hx hb dJ19_grow_2_21 rfl (lv_at hl 2 rfl) ?_
    refine lv_iload_n hx hb dJ19_grow_2_22 rfl (lv_at hl 0 rfl) ?_
    refine g_isub hx hb dJ19_grow_2_23 ?_
    refine g_topz (y := 1) (by omega) ?_
    refine lv_iload_n hx hb dJ19_grow_2_24 rfl (lv_at hl 0 rfl) ?_
    refine lv_iconst (v := zI 1) hx hb dJ19_grow_2_25 (by decide +kernel) ?_
    refine lv_ishr hx hb dJ19_grow_2_26 ?_
    refine lv_topx (zI ((cap / 2 : Nat) : Int)) (shr1 (by omega)) ?_
    refine g_ci (va_runS (As := [.int (zI (cap : Nat)), .int (zI 1), .int (zI ((cap / 2 : Nat) : Int))]) (rest := []) ⟨hx, hb, hml, hown, hts⟩ (metJ20_newLength (cap := cap) (h := cap / 2) (by omega)) (va_cwS 3 hts (lw_S q891 q892 q123 q893) rfl rfl rfl (by decide +kernel) ⟨Nat.le_of_ble_eq_true rfl, Nat.le_of_ble_eq_true rfl⟩) (g_preS hG) rfl rfl hl.1 rfl (lv_room (Nat.le_of_ble_eq_true rfl)) dJ19_grow_2_27 ⟨Nat.le_of_ble_eq_true rfl, Nat.le_of_ble_eq_true rfl⟩) hG (fun r_1 F_2 V_3 ws_ H locs hp hG => ?_)
    obtain ⟨rfl, rfl, rfl, rfl⟩ := hp
    have hG : gW X F V ((al, oB 25 [.int (zI mo), .ref es, .int (zI n)]) :: (es, aR (gT X 10) cap f) :: Z) s H locs := hG
    refine g_topz (y := (((cap + max 1 (cap / 2)) : Nat) : Int)) (by omega) ?_
    refine lv_istore_n (lv' := [(3, .int (zI (((cap + max 1 (cap / 2)) : Nat) : Int))), (2, .int (zI (cap : Nat))), (0, .ref al), (1, .int (zI ((cap : Int) + 1)))]) hx hb dJ19_grow_2_30 rfl hl (by decide) rfl (fun ls hl => ?_)
    refine lv_aload_n hx hb dJ19_grow_2_31 rfl (lv_at hl 2 rfl) ?_
    refine lv_aload_n hx hb dJ19_grow_2_32 rfl (lv_at hl 2 rfl) ?_
    refine g_get (ci := 25) hx hb hts in_J19 hown hG (hG.at 0 rfl) rfl 1 (Nat.le_of_ble_eq_true rfl) (hts _ q762) (fun _ h9 => h9) rfl dJ19_grow_2_33 ?_
    refine lv_iload_n hx hb dJ19_grow_2_36 rfl (lv_at hl 0 rfl) ?_
    have hG : gW X F V ((es, aR (gT X 10) cap f) :: (al, oB 25 [.int (zI mo), .ref es, .int (zI n)]) :: Z) s _ _ := hG.pull 1 rfl rfl
    refine g_cr (va_runS (As := [.ref es, .int (zI (((cap + max 1 (cap / 2)) : Nat) : Int))]) (rest := [.ref al]) ⟨hx, hb, hml, hown, hts⟩ (metJ22_copyOf (n := (cap + max 1 (cap / 2))) hal hel (by omega)) (va_cwS 2 hts (lw_S q901 q902 q125 q903) rfl rfl rfl (by decide +kernel) ⟨Nat.le_of_ble_eq_true rfl, Nat.le_of_ble_eq_true rfl⟩) (g_preS hG) rfl rfl hl.1 rfl (lv_room (Nat.le_of_ble_eq_true rfl)) dJ19_grow_2_37 ⟨Nat.le_of_ble_eq_true rfl, Nat.le_of_ble_eq_true rfl⟩) hG (fun q9 F_4 V_5 ws_ H locs hp hG => ?_)
    obtain ⟨rfl, rfl, rfl⟩ := hp
    have hG : gW X F V ((q9, aR (gT X 10) (cap + max 1 (cap / 2)) (va_cpy f (fun _ => none) 0 0 cap)) :: (es, aR (gT X 10) cap f) :: (al, oB 25 [.int (zI mo), .ref es, .int (zI n)]) :: Z) s H locs := hG
    refine lv_dup_x1 hx hb dJ19_grow_2_40 rfl rfl ?_
    refine g_put (ci := 25) hx hb hts in_J19 tyJ19 tyJ19_ok nmJ19 hown hG 2 rfl rfl 1 (Nat.le_of_ble_eq_true rfl) (hts _ q762) (fun _ h9 => h9) rfl (tyJ19_ok 1 (Nat.le_of_ble_eq_true rfl)) rfl rfl (Nat.le_of_ble_eq_true rfl) dJ19_grow_2_41 (fun H locs (hG : gW X F V ((q9, aR (gT X 10) (cap + max 1 (cap / 2)) (va_cpy f (fun _ => none) 0 0 cap)) :: (es, aR (gT X 10) cap f) :: (al, oB 25 [.int (zI mo), .ref q9, .int (zI n)]) :: Z) s H locs) => ?_)
    have hG : gW X F V ((q9, aR (gT X 10) (cap + max 1 (cap / 2)) (va_cpy f (fun _ => none) 0 0 cap)) :: (al, oB 25 [.int (zI mo), .ref q9, .int (zI n)]) :: Z) s _ _ := hG.drop 1 rfl rfl
    have hG : gW X F V ((al, oB 25 [.int (zI mo), .ref q9, .int (zI n)]) :: (q9, aR (gT X 10) (cap + max 1 (cap / 2)) (va_cpy f (fun _ => none) 0 0 cap)) :: Z) s _ _ := hG.pull 1 rfl rfl
    exact g_rret hx hb hr (Or.inr ⟨_, rfl⟩) hlocks hG (⟨rfl, rfl, rfl⟩) ⟨Nat.le_of_ble_eq_true rfl, Nat.le_of_ble_eq_true rfl⟩ dJ19_grow_2_44
  · exfalso; omega

set_option maxHeartbeats 4000000 in
theorem metJ19_grow_z {l : Launch} {X : gX} {F : gF} {V : gV} {Z : va_W} {al : Nat} {mo : Int} : Met l yJ19_grow (ws_ yJ19_grow cJ19_grow 1 (some (FieldType.array (FieldType.object "java/lang/Object")))) ({ frames := 2, cells := 1, slots := 10, locals := 44 }) (gP X F V ((al, oB 25 [.int (zI mo), .ref (ga X 300), .int (zI 0)]) :: Z) [.ref al]) (gQr X (fun u G U ws => F = G ∧ V = U ∧ ((al, oB 25 [.int (zI mo), .ref u, .int (zI 0)]) :: (u, aR (gT X 10) 10 (fun _ => none)) :: Z) = ws)) 1 10 (gA X) := by
  refine Met.g (by decide) (Nat.le_of_ble_eq_true rfl) ?_
  intro p e s m below meth c ls hx hb hr hts hown hlocks hml hin hG hl
  have hl : lv_has ls 1 [(0, .ref al)] := hl
  refine lv_aload_n hx hb dJ19_grow_0 rfl (lv_at hl 0 rfl) ?_
  refine lv_aload_n hx hb dJ19_grow_1 rfl (lv_at hl 0 rfl) ?_
  refine g_get (ci := 25) hx hb hts in_J19 hown hG (hG.at 0 rfl) rfl 2 (Nat.le_of_ble_eq_true rfl) (hts _ q765) (fun _ h9 => h9) rfl dJ19_grow_2 ?_
  refine lv_iconst (v := zI 1) hx hb dJ19_grow_5 (by decide +kernel) ?_
  refine g_iadd hx hb dJ19_grow_6 ?_
  refine g_topz (y := 1) (by omega) ?_
  refine g_cr (va_runV (As := [.int (zI 1)]) (rest := []) ⟨hx, hb, hml, hown, hts⟩ (metJ19_grow_2_z) (cwV 1 hts (lw_V q887 q889 qs11 q120 q890) rfl rfl rfl (by decide +kernel) ⟨Nat.le_of_ble_eq_true rfl, Nat.le_of_ble_eq_true rfl⟩) (g_preV hG (g_recv hG (hG.at 0 rfl) (ci := 25) rfl)) rfl rfl hl.1 rfl (lv_room (Nat.le_of_ble_eq_true rfl)) dJ19_grow_7 ⟨Nat.le_of_ble_eq_true rfl, Nat.le_of_ble_eq_true rfl⟩) hG (fun q9 F_1 V_2 ws_ H locs hp hG => ?_)
  obtain ⟨rfl, rfl, rfl⟩ := hp
  have hG : gW X F V ((al, oB 25 [.int (zI mo), .ref q9, .int (zI 0)]) :: (q9, aR (gT X 10) 10 (fun _ => none)) :: Z) s H locs := hG
  exact g_rret hx hb hr (Or.inr ⟨_, rfl⟩) hlocks hG (⟨rfl, rfl, rfl⟩) ⟨Nat.le_of_ble_eq_true rfl, Nat.le_of_ble_eq_true rfl⟩ dJ19_grow_10

set_option maxHeartbeats 4000000 in
theorem metJ19_grow_s {l : Launch} {X : gX} {F : gF} {V : gV} {Z : va_W} {al es cap : Nat} {mo : Int} {f : Nat → Option Nat} {L : List Nat} (hal : alR f cap L) (hel : ∀ y ∈ L, isEl X F y) (hc : cap ≤ 24) : Met l yJ19_grow (ws_ yJ19_grow cJ19_grow 1 (some (FieldType.array (FieldType.object "java/lang/Object")))) ({ frames := 4, cells := 1, slots := 40, locals := 105 }) (gP X F V ((al, oB 25 [.int (zI mo), .ref es, .int (zI (cap : Int))]) :: (es, aR (gT X 10) cap f) :: Z) [.ref al]) (gQr X (fun u G U ws => F = G ∧ V = U ∧ ((al, oB 25 [.int (zI mo), .ref u, .int (zI (cap : Int))]) :: (u, aR (gT X 10) (cap + max 1 (cap / 2)) (va_cpy f (fun _ => none) 0 0 cap)) :: Z) = ws)) 1 40 (gA X) := by
  refine Met.g (by decide) (Nat.le_of_ble_eq_true rfl) ?_
  intro p e s m below meth c ls hx hb hr hts hown hlocks hml hin hG hl
  have hl : lv_has ls 1 [(0, .ref al)] := hl
  refine lv_aload_n hx hb dJ19_grow_0 rfl (lv_at hl 0 rfl) ?_
  refine lv_aload_n hx hb dJ19_grow_1 rfl (lv_at hl 0 rfl) ?_
  refine g_get (ci := 25) hx hb hts in_J19 hown hG (hG.at 0 rfl) rfl 2 (Nat.le_of_ble_eq_true rfl) (hts _ q765) (fun _ h9 => h9) rfl dJ19_grow_2 ?_
  refine lv_iconst (v := zI 1) hx hb dJ19_grow_5 (by decide +kernel) ?_
  refine g_iadd hx hb dJ19_grow_6 ?_
  refine g_cr (va_runV (As := [.int (zI ((cap : Int) + 1))]) (rest := []) ⟨hx, hb, hml, hown, hts⟩ (metJ19_grow_2_s hal hel hc) (cwV 1 hts (lw_V q887 q889 qs11 q120 q890) rfl rfl rfl (by decide +kernel) ⟨Nat.le_of_ble_eq_true rfl, Nat.le_of_ble_eq_true rfl⟩) (g_preV hG (g_recv hG (hG.at 0 rfl) (ci := 25) rfl)) rfl rfl hl.1 rfl (lv_room (Nat.le_of_ble_eq_true rfl)) dJ19_grow_7 ⟨Nat.le_of_ble_eq_true rfl, Nat.le_of_ble_eq_true rfl⟩) hG (fun q9 F_1 V_2 ws_ H locs hp hG => ?_)
  obtain ⟨rfl, rfl, rfl⟩ := hp
  have hG : gW X F V ((al, oB 25 [.int (zI mo), .ref q9, .int (zI (cap : Int))]) :: (q9, aR (gT X 10) (cap + max 1 (cap / 2)) (va_cpy f (fun _ => none) 0 0 cap)) :: Z) s H locs := hG
  exact g_rret hx hb hr (Or.inr ⟨_, rfl⟩) hlocks hG (⟨rfl, rfl, rfl⟩) ⟨Nat.le_of_ble_eq_true rfl, Nat.le_of_ble_eq_true rfl⟩ dJ19_grow_10

set_option maxHeartbeats 4000000 in
theorem metJ19_add_2_z {l : Launch} {X : gX} {F : gF} {V : gV} {Z : va_W} {al e9 : Nat} {mo : Int} (he9 : isEl X F e9) : Met l yJ19_add_2 (ws_ yJ19_add_2 cJ19_add_2 4 none) ({ frames := 3, cells := 1, slots := 10, locals := 64 }) (gP X F V ((al, oB 25 [.int (zI mo), .ref (ga X 300), .int (zI 0)]) :: Z) [.ref al, .ref e9, .ref (ga X 300), .int (zI 0)]) (gQv X (fun G U ws => F = G ∧ V = U ∧ ∃ (es9 cap9 : Nat) (f9 : Nat → Option Nat), alR f9 cap9 ([e9]) ∧ ((al, oB 25 [.int (zI mo), .ref es9, .int (zI 1)]) :: (es9, aR (gT X 10) cap9 f9) :: Z) = ws)) 1 10 (gA X) := by
  refine Met.g (by decide) (Nat.le_of_ble_eq_true rfl) ?_
  intro p e s m below meth c ls hx hb hr hts hown hlocks hml hin hG hl
  have hl : lv_has ls 4 [(0, .ref al), (1, .ref e9), (2, .ref (ga X 300)), (3, .int (zI 0))] := hl
  refine lv_iload_n hx hb dJ19_add_2_0 rfl (lv_at hl 3 rfl) ?_
  refine lv_aload_n hx hb dJ19_add_2_1 rfl (lv_at hl 2 rfl) ?_
  refine va_tlen hx hb hG.1.2.2.2.2.2.2.2.1 hG.2.2 (v := zI 0) (by decide +kernel) dJ19_add_2_2 ?_
  refine g_cne (tgt := 11) hx hb dJ19_add_2_3 (by decide) (by omega) (fun h1 => ?_) (fun h1 => ?_)
  · exfalso; omega
  · refine lv_aload_n hx hb dJ19_add_2_6 rfl (lv_at hl 0 rfl) ?_
    refine g_cr (va_runV (As := []) (rest := []) ⟨hx, hb, hml, hown, hts⟩ (metJ19_grow_z) (cwV 0 hts (lw_V q883 q885 qs10 q120 q886) rfl rfl rfl (by decide +kernel) ⟨Nat.le_of_ble_eq_true rfl, Nat.le_of_ble_eq_true rfl⟩) (g_preV hG (g_recv hG (hG.at 0 rfl) (ci := 25) rfl)) rfl rfl hl.1 rfl (lv_room (Nat.le_of_ble_eq_true rfl)) dJ19_add_2_7 ⟨Nat.le_of_ble_eq_true rfl, Nat.le_of_ble_eq_true rfl⟩) hG (fun q9 F_1 V_2 ws_ H locs hp hG => ?_)
    obtain ⟨rfl, rfl, rfl⟩ := hp
    have hG : gW X F V ((al, oB 25 [.int (zI mo), .ref q9, .int (zI 0)]) :: (q9, aR (gT X 10) 10 (fun _ => none)) :: Z) s H locs := hG
    refine lv_astore_n (lv' := [(2, .ref q9), (0, .ref al), (1, .ref e9), (3, .int (zI 0))]) hx hb dJ19_add_2_10 rfl hl (by decide) rfl (fun ls hl => ?_)
    refine lv_aload_n hx hb dJ19_add_2_11 rfl (lv_at hl 0 rfl) ?_
    refine lv_iload_n hx hb dJ19_add_2_12 rfl (lv_at hl 3 rfl) ?_
    refine lv_aload_n hx hb dJ19_add_2_13 rfl (lv_at hl 2 rfl) ?_
    obtain ⟨C9, hr9, ha9⟩ := el_cast hG he9
    refine g_aast hx hb hG 1 rfl 10 rfl hr9 ha9 cls_ex 0 ⟨rfl, by decide, by decide⟩ dJ19_add_2_14 (fun H locs (hG : gW X F V ((al, oB 25 [.int (zI mo), .ref q9, .int (zI 0)]) :: (q9, aR (gT X 10) 10 (va_up (fun _ => none) 0 (some e9))) :: Z) s H locs) => ?_)
    refine lv_aload_n hx hb dJ19_add_2_15 rfl (lv_at hl 1 rfl) ?_
    refine lv_iload_n hx hb dJ19_add_2_16 rfl (lv_at hl 3 rfl) ?_
    refine lv_iconst (v := zI 1) hx hb dJ19_add_2_17 (by decide +kernel) ?_
    refine g_iadd hx hb dJ19_add_2_18 ?_
    refine g_topz (y := 1) (by omega) ?_
    refine g_put (ci := 25) hx hb hts in_J19 tyJ19 tyJ19_ok nmJ19 hown hG 0 rfl rfl 2 (Nat.le_of_ble_eq_true rfl) (hts _ q765) (fun _ h9 => h9) rfl (tyJ19_ok 2 (Nat.le_of_ble_eq_true rfl)) rfl rfl (Nat.le_of_ble_eq_true rfl) dJ19_add_2_19 (fun H locs (hG : gW X F V ((al, oB 25 [.int (zI mo), .ref q9, .int (zI 1)]) :: (q9, aR (gT X 10) 10 (va_up (fun _ => none) 0 (some e9))) :: Z) s H locs) => ?_)
    exact g_vret hx hb hr hlocks hG (⟨rfl, rfl, q9, 10, _, alR.one, rfl⟩) ⟨Nat.le_of_ble_eq_true rfl, Nat.le_of_ble_eq_true rfl⟩ dJ19_add_2_22

set_option maxHeartbeats 4000000 in
theorem metJ19_add_2_s {l : Launch} {X : gX} {F : gF} {V : gV} {Z : va_W} {al es cap e9 : Nat} {mo : Int} {f : Nat → Option Nat} {L : List Nat} (hal : alR f cap L) (hel : ∀ y ∈ L, isEl X F y) (he9 : isEl X F e9) (hL9 : L.length ≤ 23) : Met l yJ19_add_2 (ws_ yJ19_add_2 cJ19_add_2 4 none) ({ frames := 5, cells := 1, slots := 40, locals := 125 }) (gP X F V ((al, oB 25 [.int (zI mo), .ref es, .int (zI (L.length : Int))]) :: (es, aR (gT X 10) cap f) :: Z) [.ref al, .ref e9, .ref es, .int (zI (L.length : Int))]) (gQv X (fun G U ws => F = G ∧ V = U ∧ ∃ (es9 cap9 : Nat) (f9 : Nat → Option Nat), alR f9 cap9 (L ++ [e9]) ∧ ((al, oB 25 [.int (zI mo), .ref es9, .int (zI ((L.length : Int) + 1))]) :: (es9, aR (gT X 10) cap9 f9) :: Z) = ws)) 1 40 (gA X) := by
  refine Met.g (by decide) (Nat.le_of_ble_eq_true rfl) ?_
  intro p e s m below meth c ls hx hb hr hts hown hlocks hml hin hG hl
  have hl : lv_has ls 4 [(0, .ref al), (1, .ref e9), (2, .ref es), (3, .int (zI (L.length : Int)))] := hl
  have hcp := hal.2.1
  have hlc := hal.1
  refine lv_iload_n hx hb dJ19_add_2_0 rfl (lv_at hl 3 rfl) ?_
  refine lv_aload_n hx hb dJ19_add_2_1 rfl (lv_at hl 2 rfl) ?_
  refine g_alen hx hb hG 10 rfl (hG.at 1 rfl) dJ19_add_2_2 ?_
  refine g_cne (tgt := 11) hx hb dJ19_add_2_3 (by decide) (by omega) (fun h1 => ?_) (fun h1 => ?_)
  · refine lv_aload_n hx hb dJ19_add_2_11 rfl (lv_at hl 2 rfl) ?_
    refine lv_iload_n hx hb dJ19_add_2_12 rfl (lv_at hl 3 rfl) ?_
    refine lv_aload_n hx hb dJ19_add_2_13 rfl (lv_at hl 1 rfl) ?_
    obtain ⟨C9, hr9, ha9⟩ := el_cast hG he9
    refine g_aast hx hb hG 1 rfl 10 rfl hr9 ha9 cls_ex L.length ⟨rfl, by omega, by omega⟩ dJ19_add_2_14 (fun H locs (hG : gW X F V ((al, oB 25 [.int (zI mo), .ref es, .int (zI (L.length : Int))]) :: (es, aR (gT X 10) cap (va_up f L.length (some e9))) :: Z) s H locs) => ?_)
    refine lv_aload_n hx hb dJ19_add_2_15 rfl (lv_at hl 0 rfl) ?_
    refine lv_iload_n hx hb dJ19_add_2_16 rfl (lv_at hl 3 rfl) ?_
    refine lv_iconst (v := zI 1) hx hb dJ19_add_2_17 (by decide +kernel) ?_
    refine g_iadd hx hb dJ19_add_2_18 ?_
    refine g_put (ci := 25) hx hb hts in_J19 tyJ19 tyJ19_ok nmJ19 hown hG 0 rfl rfl 2 (Nat.le_of_ble_eq_true rfl) (hts _ q765) (fun _ h9 => h9) rfl (tyJ19_ok 2 (Nat.le_of_ble_eq_true rfl)) rfl rfl (Nat.le_of_ble_eq_true rfl) dJ19_add_2_19 (fun H locs (hG : gW X F V ((al, oB 25 [.int (zI mo), .ref es, .int (zI ((L.length : Int) + 1))]) :: (es, aR (gT X 10) cap (va_up f L.length (some e9))) :: Z) s H locs) => ?_)
    exact g_vret hx hb hr hlocks hG (⟨rfl, rfl, es, cap, _, hal.add (by omega), rfl⟩) ⟨Nat.le_of_ble_eq_true rfl, Nat.le_of_ble_eq_true rfl⟩ dJ19_add_2_22
  · have hLc : L.length = cap := by omega
    refine lv_aload_n hx hb dJ19_add_2_6 rfl (lv_at hl 0 rfl) ?_
    rw [show (L.length : Int) = (cap : Int) by omega] at hG
    have hG : gW X F V ((al, oB 25 [.int (zI mo), .ref es, .int (zI (cap : Int))]) :: (es, aR (gT X 10) cap f) :: Z) s _ _ := hG
    refine g_cr (va_runV (As := []) (rest := []) ⟨hx, hb, hml, hown, hts⟩ (metJ19_grow_s hal hel (by omega)) (cwV 0 hts (lw_V q883 q885 qs10 q120 q886) rfl rfl rfl (by decide +kernel) ⟨Nat.le_of_ble_eq_true rfl, Nat.le_of_ble_eq_true rfl⟩) (g_preV hG (g_recv hG (hG.at 0 rfl) (ci := 25) rfl)) rfl rfl hl.1 rfl (lv_room (Nat.le_of_ble_eq_true rfl)) dJ19_add_2_7 ⟨Nat.le_of_ble_eq_true rfl, Nat.le_of_ble_eq_true rfl⟩) hG (fun q9 F_1 V_2 ws_ H locs hp hG => ?_)
    obtain ⟨rfl, rfl, rfl⟩ := hp
    have hG : gW X F V ((al, oB 25 [.int (zI mo), .ref q9, .int (zI (cap : Int))]) :: (q9, aR (gT X 10) (cap + max 1 (cap / 2)) (va_cpy f (fun _ => none) 0 0 cap)) :: Z) s H locs := hG
    have hal2 := hal.grow (cap2 := (cap + max 1 (cap / 2))) (by omega)
    refine lv_astore_n (lv' := [(2, .ref q9), (0, .ref al), (1, .ref e9), (3, .int (zI (L.length : Int)))]) hx hb dJ19_add_2_10 rfl hl (by decide) rfl (fun ls hl => ?_)
    refine lv_aload_n hx hb dJ19_add_2_11 rfl (lv_at hl 0 rfl) ?_
    refine lv_iload_n hx hb dJ19_add_2_12 rfl (lv_at hl 3 rfl) ?_
    refine lv_aload_n hx hb dJ19_add_2_13 rfl (lv_at hl 2 rfl) ?_
    obtain ⟨C9, hr9, ha9⟩ := el_cast hG he9
    refine g_aast hx hb hG 1 rfl 10 rfl hr9 ha9 cls_ex L.length ⟨rfl, by omega, by omega⟩ dJ19_add_2_14 (fun H locs (hG : gW X F V ((al, oB 25 [.int (zI mo), .ref q9, .int (zI (cap : Int))]) :: (q9, aR (gT X 10) (cap + max 1 (cap / 2)) (va_up (va_cpy f (fun _ => none) 0 0 cap) L.length (some e9))) :: Z) s H locs) => ?_)
    refine lv_aload_n hx hb dJ19_add_2_15 rfl (lv_at hl 1 rfl) ?_
    refine lv_iload_n hx hb dJ19_add_2_16 rfl (lv_at hl 3 rfl) ?_
    refine lv_iconst (v := zI 1) hx hb dJ19_add_2_17 (by decide +kernel) ?_
    refine g_iadd hx hb dJ19_add_2_18 ?_
    refine g_put (ci := 25) hx hb hts in_J19 tyJ19 tyJ19_ok nmJ19 hown hG 0 rfl rfl 2 (Nat.le_of_ble_eq_true rfl) (hts _ q765) (fun _ h9 => h9) rfl (tyJ19_ok 2 (Nat.le_of_ble_eq_true rfl)) rfl rfl (Nat.le_of_ble_eq_true rfl) dJ19_add_2_19 (fun H locs (hG : gW X F V ((al, oB 25 [.int (zI mo), .ref q9, .int (zI ((L.length : Int) + 1))]) :: (q9, aR (gT X 10) (cap + max 1 (cap / 2)) (va_up (va_cpy f (fun _ => none) 0 0 cap) L.length (some e9))) :: Z) s H locs) => ?_)
    exact g_vret hx hb hr hlocks hG (⟨rfl, rfl, q9, (cap + max 1 (cap / 2)), _, hal2.add (by omega), rfl⟩) ⟨Nat.le_of_ble_eq_true rfl, Nat.le_of_ble_eq_true rfl⟩ dJ19_add_2_22

set_option maxHeartbeats 4000000 in
theorem metJ19_add_z {l : Launch} {X : gX} {F : gF} {V : gV} {Z : va_W} {al e9 : Nat} {mo : Int} (he9 : isEl X F e9) : Met l yJ19_add (ws_ yJ19_add cJ19_add 2 (some FieldType.boolean)) ({ frames := 4, cells := 1, slots := 10, locals := 87 }) (gP X F V ((al, oB 25 [.int (zI mo), .ref (ga X 300), .int (zI 0)]) :: Z) [.ref al, .ref e9]) (gQi X (fun u G U ws => u = zI 1 ∧ F = G ∧ V = U ∧ ∃ (es9 cap9 : Nat) (f9 : Nat → Option Nat), alR f9 cap9 ([e9]) ∧ ((al, oB 25 [.int (zI (mo + 1)), .ref es9, .int (zI 1)]) :: (es9, aR (gT X 10) cap9 f9) :: Z) = ws)) 1 10 (gA X) := by
  refine Met.g (by decide) (Nat.le_of_ble_eq_true rfl) ?_
  intro p e s m below meth c ls hx hb hr hts hown hlocks hml hin hG hl
  have hl : lv_has ls 2 [(0, .ref al), (1, .ref e9)] := hl
  refine lv_aload_n hx hb dJ19_add_0 rfl (lv_at hl 0 rfl) ?_
  refine lv_dup hx hb dJ19_add_1 rfl ?_
  refine g_get (ci := 25) hx hb hts in_J19 hown hG (hG.at 0 rfl) rfl 0 (Nat.le_of_ble_eq_true rfl) (hts _ q773) (u_same (hts _ q770)) rfl dJ19_add_2 ?_
  refine lv_iconst (v := zI 1) hx hb dJ19_add_5 (by decide +kernel) ?_
  refine g_iadd hx hb dJ19_add_6 ?_
  refine g_put (ci := 25) hx hb hts in_J19 tyJ19 tyJ19_ok nmJ19 hown hG 0 rfl rfl 0 (Nat.le_of_ble_eq_true rfl) (hts _ q773) (u_same (hts _ q770)) rfl (tyJ19_ok 0 (Nat.le_of_ble_eq_true rfl)) rfl rfl (Nat.le_of_ble_eq_true rfl) dJ19_add_7 (fun H locs (hG : gW X F V ((al, oB 25 [.int (zI (mo + 1)), .ref (ga X 300), .int (zI 0)]) :: Z) s H locs) => ?_)
  refine lv_aload_n hx hb dJ19_add_10 rfl (lv_at hl 0 rfl) ?_
  refine lv_aload_n hx hb dJ19_add_11 rfl (lv_at hl 1 rfl) ?_
  refine lv_aload_n hx hb dJ19_add_12 rfl (lv_at hl 0 rfl) ?_
  refine g_get (ci := 25) hx hb hts in_J19 hown hG (hG.at 0 rfl) rfl 1 (Nat.le_of_ble_eq_true rfl) (hts _ q762) (fun _ h9 => h9) rfl dJ19_add_13 ?_
  refine lv_aload_n hx hb dJ19_add_16 rfl (lv_at hl 0 rfl) ?_
  refine g_get (ci := 25) hx hb hts in_J19 hown hG (hG.at 0 rfl) rfl 2 (Nat.le_of_ble_eq_true rfl) (hts _ q765) (fun _ h9 => h9) rfl dJ19_add_17 ?_
  refine g_cv (va_runV (As := [.ref e9, .ref (ga X 300), .int (zI 0)]) (rest := []) ⟨hx, hb, hml, hown, hts⟩ (metJ19_add_2_z he9) (cwV 3 hts (lw_V q879 q881 qs9 q120 q882) rfl rfl rfl (by decide +kernel) ⟨Nat.le_of_ble_eq_true rfl, Nat.le_of_ble_eq_true rfl⟩) (g_preV hG (g_recv hG (hG.at 0 rfl) (ci := 25) rfl)) rfl rfl hl.1 rfl (lv_room (Nat.le_of_ble_eq_true rfl)) dJ19_add_20 ⟨Nat.le_of_ble_eq_true rfl, Nat.le_of_ble_eq_true rfl⟩) hG (fun F_2 V_3 ws_ H locs hp hG => ?_)
  obtain ⟨rfl, rfl, es9, cap9, f9, hal9, rfl⟩ := hp
  have hG : gW X F V ((al, oB 25 [.int (zI (mo + 1)), .ref es9, .int (zI 1)]) :: (es9, aR (gT X 10) cap9 f9) :: Z) s H locs := hG
  refine lv_iconst (v := zI 1) hx hb dJ19_add_23 (by decide +kernel) ?_
  exact g_zret hx hb hr hlocks rfl hG (⟨rfl, rfl, rfl, es9, cap9, f9, hal9, rfl⟩) ⟨Nat.le_of_ble_eq_true rfl, Nat.le_of_ble_eq_true rfl⟩ dJ19_add_24

set_option maxHeartbeats 4000000 in
theorem metJ19_add_s {l : Launch} {X : gX} {F : gF} {V : gV} {Z : va_W} {al es cap e9 : Nat} {mo : Int} {f : Nat → Option Nat} {L : List Nat} (hal : alR f cap L) (hel : ∀ y ∈ L, isEl X F y) (he9 : isEl X F e9) (hL9 : L.length ≤ 23) : Met l yJ19_add (ws_ yJ19_add cJ19_add 2 (some FieldType.boolean)) ({ frames := 6, cells := 1, slots := 40, locals := 148 }) (gP X F V ((al, oB 25 [.int (zI mo), .ref es, .int (zI (L.length : Int))]) :: (es, aR (gT X 10) cap f) :: Z) [.ref al, .ref e9]) (gQi X (fun u G U ws => u = zI 1 ∧ F = G ∧ V = U ∧ ∃ (es9 cap9 : Nat) (f9 : Nat → Option Nat), alR f9 cap9 (L ++ [e9]) ∧ ((al, oB 25 [.int (zI (mo + 1)), .ref es9, .int (zI ((L.length : Int) + 1))]) :: (es9, aR (gT X 10) cap9 f9) :: Z) = ws)) 1 40 (gA X) := by
  refine Met.g (by decide) (Nat.le_of_ble_eq_true rfl) ?_
  intro p e s m below meth c ls hx hb hr hts hown hlocks hml hin hG hl
  have hl : lv_has ls 2 [(0, .ref al), (1, .ref e9)] := hl
  refine lv_aload_n hx hb dJ19_add_0 rfl (lv_at hl 0 rfl) ?_
  refine lv_dup hx hb dJ19_add_1 rfl ?_
  refine g_get (ci := 25) hx hb hts in_J19 hown hG (hG.at 0 rfl) rfl 0 (Nat.le_of_ble_eq_true rfl) (hts _ q773) (u_same (hts _ q770)) rfl dJ19_add_2 ?_
  refine lv_iconst (v := zI 1) hx hb dJ19_add_5 (by decide +kernel) ?_
  refine g_iadd hx hb dJ19_add_6 ?_
  refine g_put (ci := 25) hx hb hts in_J19 tyJ19 tyJ19_ok nmJ19 hown hG 0 rfl rfl 0 (Nat.le_of_ble_eq_true rfl) (hts _ q773) (u_same (hts _ q770)) rfl (tyJ19_ok 0 (Nat.le_of_ble_eq_true rfl)) rfl rfl (Nat.le_of_ble_eq_true rfl) dJ19_add_7 (fun H locs (hG : gW X F V ((al, oB 25 [.int (zI (mo + 1)), .ref es, .int (zI (L.length : Int))]) :: (es, aR (gT X 10) cap f) :: Z) s H locs) => ?_)
  refine lv_aload_n hx hb dJ19_add_10 rfl (lv_at hl 0 rfl) ?_
  refine lv_aload_n hx hb dJ19_add_11 rfl (lv_at hl 1 rfl) ?_
  refine lv_aload_n hx hb dJ19_add_12 rfl (lv_at hl 0 rfl) ?_
  refine g_get (ci := 25) hx hb hts in_J19 hown hG (hG.at 0 rfl) rfl 1 (Nat.le_of_ble_eq_true rfl) (hts _ q762) (fun _ h9 => h9) rfl dJ19_add_13 ?_
  refine lv_aload_n hx hb dJ19_add_16 rfl (lv_at hl 0 rfl) ?_
  refine g_get (ci := 25) hx hb hts in_J19 hown hG (hG.at 0 rfl) rfl 2 (Nat.le_of_ble_eq_true rfl) (hts _ q765) (fun _ h9 => h9) rfl dJ19_add_17 ?_
  refine g_cv (va_runV (As := [.ref e9, .ref es, .int (zI (L.length : Int))]) (rest := []) ⟨hx, hb, hml, hown, hts⟩ (metJ19_add_2_s hal hel he9 hL9) (cwV 3 hts (lw_V q879 q881 qs9 q120 q882) rfl rfl rfl (by decide +kernel) ⟨Nat.le_of_ble_eq_true rfl, Nat.le_of_ble_eq_true rfl⟩) (g_preV hG (g_recv hG (hG.at 0 rfl) (ci := 25) rfl)) rfl rfl hl.1 rfl (lv_room (Nat.le_of_ble_eq_true rfl)) dJ19_add_20 ⟨Nat.le_of_ble_eq_true rfl, Nat.le_of_ble_eq_true rfl⟩) hG (fun F_2 V_3 ws_ H locs hp hG => ?_)
  obtain ⟨rfl, rfl, es9, cap9, f9, hal9, rfl⟩ := hp
  have hG : gW X F V ((al, oB 25 [.int (zI (mo + 1)), .ref es9, .int (zI ((L.length : Int) + 1))]) :: (es9, aR (gT X 10) cap9 f9) :: Z) s H locs := hG
  refine lv_iconst (v := zI 1) hx hb dJ19_add_23 (by decide +kernel) ?_
  exact g_zret hx hb hr hlocks rfl hG (⟨rfl, rfl, rfl, es9, cap9, f9, hal9, rfl⟩) ⟨Nat.le_of_ble_eq_true rfl, Nat.le_of_ble_eq_true rfl⟩ dJ19_add_24

set_option maxHeartbeats 4000000 in
theorem metJ19_size {l : Launch} {X : gX} {F : gF} {V : gV} {Z : va_W} {al es : Nat} {mo n : Int} : Met l yJ19_size (ws_ yJ19_size cJ19_size 1 (some FieldType.int)) ({ frames := 0, cells := 0, slots := 0, locals := 0 }) (gP X F V ((al, oB 25 [.int (zI mo), .ref es, .int (zI n)]) :: Z) [.ref al]) (gQi X (fun u G U ws => u = zI n ∧ F = G ∧ V = U ∧ ((al, oB 25 [.int (zI mo), .ref es, .int (zI n)]) :: Z) = ws)) 0 0 (gA X) := by
  refine Met.g (by decide) (Nat.le_of_ble_eq_true rfl) ?_
  intro p e s m below meth c ls hx hb hr hts hown hlocks hml hin hG hl
  have hl : lv_has ls 1 [(0, .ref al)] := hl
  refine lv_aload_n hx hb dJ19_size_0 rfl (lv_at hl 0 rfl) ?_
  refine g_get (ci := 25) hx hb hts in_J19 hown hG (hG.at 0 rfl) rfl 2 (Nat.le_of_ble_eq_true rfl) (hts _ q765) (fun _ h9 => h9) rfl dJ19_size_1 ?_
  exact g_iret hx hb hr hlocks hG (⟨rfl, rfl, rfl, rfl⟩) ⟨Nat.le_of_ble_eq_true rfl, Nat.le_of_ble_eq_true rfl⟩ dJ19_size_4

set_option maxHeartbeats 4000000 in
theorem metJ29_init {l : Launch} {X : gX} {F : gF} {V : gV} {Z : va_W} {it al es : Nat} {mo n : Int} : Met l yJ29_init (ws_ yJ29_init cJ29_init 2 none) ({ frames := 1, cells := 0, slots := 0, locals := 20 }) (gP X F V ((it, oB 26 [.int (zI 0), .int (zI 0), .int (zI 0), .null]) :: (al, oB 25 [.int (zI mo), .ref es, .int (zI n)]) :: Z) [.ref it, .ref al]) (gQv X (fun G U ws => F = G ∧ V = U ∧ ((it, oB 26 [.int (zI 0), .int (zI (-1)), .int (zI mo), .ref al]) :: (al, oB 25 [.int (zI mo), .ref es, .int (zI n)]) :: Z) = ws)) 0 0 (gA X) := by
  refine Met.g (by decide) (Nat.le_of_ble_eq_true rfl) ?_
  intro p e s m below meth c ls hx hb hr hts hown hlocks hml hin hG hl
  have hl : lv_has ls 2 [(0, .ref it), (1, .ref al)] := hl
  refine lv_aload_n hx hb dJ29_init_0 rfl (lv_at hl 0 rfl) ?_
  refine lv_aload_n hx hb dJ29_init_1 rfl (lv_at hl 1 rfl) ?_
  refine g_putF (ci := 26) hx hb hts in_J29 tyJ29 tyJ29_ok nmJ29 hown hin hG 0 rfl rfl 3 (Nat.le_of_ble_eq_true rfl) (hts _ q1315) (fun _ h9 => h9) rfl rfl (tyJ29_ok 3 (Nat.le_of_ble_eq_true rfl)) rfl rfl (Nat.le_of_ble_eq_true rfl) dJ29_init_2 (fun H locs (hG : gW X F V ((it, oB 26 [.int (zI 0), .int (zI 0), .int (zI 0), .ref al]) :: (al, oB 25 [.int (zI mo), .ref es, .int (zI n)]) :: Z) s H locs) => ?_)
  refine lv_aload_n hx hb dJ29_init_5 rfl (lv_at hl 0 rfl) ?_
  refine W.objInit hx hb hown (hts _ q1309) (hts _ q170) (hts _ q171) rfl (by rw [hml]; exact hl.1) rfl dJ29_init_6 (Nat.le_of_ble_eq_true rfl) (Nat.le_of_ble_eq_true rfl) ?_
  refine W.eq (g2 := F0 m 9 ls []) rfl ?_
  refine lv_aload_n hx hb dJ29_init_9 rfl (lv_at hl 0 rfl) ?_
  refine lv_iconst (v := zI (-1)) hx hb dJ29_init_10 (by decide +kernel) ?_
  refine g_put (ci := 26) hx hb hts in_J29 tyJ29 tyJ29_ok nmJ29 hown hG 0 rfl rfl 1 (Nat.le_of_ble_eq_true rfl) (hts _ q1313) (fun _ h9 => h9) rfl (tyJ29_ok 1 (Nat.le_of_ble_eq_true rfl)) rfl rfl (Nat.le_of_ble_eq_true rfl) dJ29_init_11 (fun H locs (hG : gW X F V ((it, oB 26 [.int (zI 0), .int (zI (-1)), .int (zI 0), .ref al]) :: (al, oB 25 [.int (zI mo), .ref es, .int (zI n)]) :: Z) s H locs) => ?_)
  refine lv_aload_n hx hb dJ29_init_14 rfl (lv_at hl 0 rfl) ?_
  refine lv_aload_n hx hb dJ29_init_15 rfl (lv_at hl 0 rfl) ?_
  refine g_get (ci := 26) hx hb hts in_J29 hown hG (hG.at 0 rfl) rfl 3 (Nat.le_of_ble_eq_true rfl) (hts _ q1315) (fun _ h9 => h9) rfl dJ29_init_16 ?_
  refine g_get (ci := 25) hx hb hts in_J19 hown hG (hG.at 1 rfl) rfl 0 (Nat.le_of_ble_eq_true rfl) (hts _ q769) (u_same (hts _ q770)) rfl dJ29_init_19 ?_
  refine g_put (ci := 26) hx hb hts in_J29 tyJ29 tyJ29_ok nmJ29 hown hG 0 rfl rfl 2 (Nat.le_of_ble_eq_true rfl) (hts _ q1314) (fun _ h9 => h9) rfl (tyJ29_ok 2 (Nat.le_of_ble_eq_true rfl)) rfl rfl (Nat.le_of_ble_eq_true rfl) dJ29_init_22 (fun H locs (hG : gW X F V ((it, oB 26 [.int (zI 0), .int (zI (-1)), .int (zI mo), .ref al]) :: (al, oB 25 [.int (zI mo), .ref es, .int (zI n)]) :: Z) s H locs) => ?_)
  exact g_vret hx hb hr hlocks hG (⟨rfl, rfl, rfl⟩) ⟨Nat.le_of_ble_eq_true rfl, Nat.le_of_ble_eq_true rfl⟩ dJ29_init_25

set_option maxHeartbeats 4000000 in
theorem metJ19_iterator {l : Launch} {X : gX} {F : gF} {V : gV} {Z : va_W} {al es : Nat} {mo n : Int} : Met l yJ19_iterator (ws_ yJ19_iterator cJ19_iterator 1 (some (FieldType.object "java/util/Iterator"))) ({ frames := 2, cells := 1, slots := 4, locals := 41 }) (gP X F V ((al, oB 25 [.int (zI mo), .ref es, .int (zI n)]) :: Z) [.ref al]) (gQr X (fun it G U ws => F = G ∧ V = U ∧ ((it, oB 26 [.int (zI 0), .int (zI (-1)), .int (zI mo), .ref al]) :: (al, oB 25 [.int (zI mo), .ref es, .int (zI n)]) :: Z) = ws)) 1 4 (gA X) := by
  refine Met.g (by decide) (Nat.le_of_ble_eq_true rfl) ?_
  intro p e s m below meth c ls hx hb hr hts hown hlocks hml hin hG hl
  have hl : lv_has ls 1 [(0, .ref al)] := hl
  refine g_new (ci := 26) hx hb hts in_J29 tyJ29 tyJ29_ok hown (hts _ q1304) (hts _ q1305) (hts _ q132) hG rfl (fs := [.int (zI 0), .int (zI 0), .int (zI 0), .null]) rfl ⟨Nat.le_of_ble_eq_true rfl, Nat.le_of_ble_eq_true rfl⟩ dJ19_iterator_0 (fun it H (hG : gW X F V ((it, oB 26 [.int (zI 0), .int (zI 0), .int (zI 0), .null]) :: (al, oB 25 [.int (zI mo), .ref es, .int (zI n)]) :: Z) s H _) => ?_)
  refine lv_dup hx hb dJ19_iterator_3 rfl ?_
  refine lv_aload_n hx hb dJ19_iterator_4 rfl (lv_at hl 0 rfl) ?_
  refine g_cv (va_runI (As := [.ref al]) (rest := [.ref it]) ⟨hx, hb, hml, hown, hts⟩ (metJ29_init) (cwI 1 hts (lw_meth q1308) rfl rfl rfl (hts _ q132) (hts _ q1306) (hts _ q1307) rfl (by decide +kernel) ⟨Nat.le_of_ble_eq_true rfl, Nat.le_of_ble_eq_true rfl⟩) (g_preS hG) rfl rfl hl.1 rfl (lv_room (Nat.le_of_ble_eq_true rfl)) dJ19_iterator_5 ⟨Nat.le_of_ble_eq_true rfl, Nat.le_of_ble_eq_true rfl⟩) hG (fun F_2 V_3 ws_ H locs hp hG => ?_)
  obtain ⟨rfl, rfl, rfl⟩ := hp
  have hG : gW X F V ((it, oB 26 [.int (zI 0), .int (zI (-1)), .int (zI mo), .ref al]) :: (al, oB 25 [.int (zI mo), .ref es, .int (zI n)]) :: Z) s H locs := hG
  exact g_rret hx hb hr (Or.inl ⟨_, rfl⟩) hlocks hG (⟨rfl, rfl, rfl⟩) ⟨Nat.le_of_ble_eq_true rfl, Nat.le_of_ble_eq_true rfl⟩ dJ19_iterator_8

set_option maxHeartbeats 4000000 in
theorem metJ29_hasNext {l : Launch} {X : gX} {F : gF} {V : gV} {Z : va_W} {it al es j n : Nat} {mo la : Int} (hj : j ≤ n ∧ n ≤ 1000) : Met l yJ29_hasNext (ws_ yJ29_hasNext cJ29_hasNext 1 (some FieldType.boolean)) ({ frames := 0, cells := 0, slots := 0, locals := 0 }) (gP X F V ((it, oB 26 [.int (zI (j : Int)), .int (zI la), .int (zI mo), .ref al]) :: (al, oB 25 [.int (zI mo), .ref es, .int (zI (n : Int))]) :: Z) [.ref it]) (gQi X (fun u G U ws => u = zI (bI (decide (j < n))) ∧ F = G ∧ V = U ∧ ((it, oB 26 [.int (zI (j : Int)), .int (zI la), .int (zI mo), .ref al]) :: (al, oB 25 [.int (zI mo), .ref es, .int (zI (n : Int))]) :: Z) = ws)) 0 0 (gA X) := by
  refine Met.g (by decide) (Nat.le_of_ble_eq_true rfl) ?_
  intro p e s m below meth c ls hx hb hr hts hown hlocks hml hin hG hl
  have hl : lv_has ls 1 [(0, .ref it)] := hl
  refine lv_aload_n hx hb dJ29_hasNext_0 rfl (lv_at hl 0 rfl) ?_
  refine g_get (ci := 26) hx hb hts in_J29 hown hG (hG.at 0 rfl) rfl 0 (Nat.le_of_ble_eq_true rfl) (hts _ q1312) (fun _ h9 => h9) rfl dJ29_hasNext_1 ?_
  refine lv_aload_n hx hb dJ29_hasNext_4 rfl (lv_at hl 0 rfl) ?_
  refine g_get (ci := 26) hx hb hts in_J29 hown hG (hG.at 0 rfl) rfl 3 (Nat.le_of_ble_eq_true rfl) (hts _ q1315) (fun _ h9 => h9) rfl dJ29_hasNext_5 ?_
  refine g_getN (ci := 25) hx hb hts in_J19 hown hG (hG.at 1 rfl) rfl 2 (Nat.le_of_ble_eq_true rfl) (hG.1.2.1.1 _ qn764) (fun _ h9 => h9) rfl dJ29_hasNext_8 ?_
  refine g_ceq (tgt := 18) hx hb dJ29_hasNext_11 (by decide) (by omega) (fun h1 => ?_) (fun h1 => ?_)
  · refine lv_iconst (v := zI 0) hx hb dJ29_hasNext_18 (by decide +kernel) ?_
    exact g_zret hx hb hr hlocks rfl hG (⟨by rw [decide_eq_false (by omega)]; rfl, rfl, rfl, rfl⟩) ⟨Nat.le_of_ble_eq_true rfl, Nat.le_of_ble_eq_true rfl⟩ dJ29_hasNext_19
  · refine lv_iconst (v := zI 1) hx hb dJ29_hasNext_14 (by decide +kernel) ?_
    refine lv_goto (tgt := 19) hx hb dJ29_hasNext_15 (by decide) ?_
    exact g_zret hx hb hr hlocks rfl hG (⟨by rw [decide_eq_true (by omega)]; rfl, rfl, rfl, rfl⟩) ⟨Nat.le_of_ble_eq_true rfl, Nat.le_of_ble_eq_true rfl⟩ dJ29_hasNext_19

set_option maxHeartbeats 4000000 in
theorem metJ29_checkForComodification {l : Launch} {X : gX} {F : gF} {V : gV} {Z : va_W} {it al es : Nat} {mo la j n : Int} : Met l yJ29_checkForComodification (ws_ yJ29_checkForComodification cJ29_checkForComodification 1 none) ({ frames := 0, cells := 0, slots := 0, locals := 0 }) (gP X F V ((it, oB 26 [.int (zI j), .int (zI la), .int (zI mo), .ref al]) :: (al, oB 25 [.int (zI mo), .ref es, .int (zI n)]) :: Z) [.ref it]) (gQv X (fun G U ws => F = G ∧ V = U ∧ ((it, oB 26 [.int (zI j), .int (zI la), .int (zI mo), .ref al]) :: (al, oB 25 [.int (zI mo), .ref es, .int (zI n)]) :: Z) = ws)) 0 0 (gA X) := by
  refine Met.g (by decide) (Nat.le_of_ble_eq_true rfl) ?_
  intro p e s m below meth c ls hx hb hr hts hown hlocks hml hin hG hl
  have hl : lv_has ls 1 [(0, .ref it)] := hl
  refine lv_aload_n hx hb dJ29_checkForComodification_0 rfl (lv_at hl 0 rfl) ?_
  refine g_get (ci := 26) hx hb hts in_J29 hown hG (hG.at 0 rfl) rfl 3 (Nat.le_of_ble_eq_true rfl) (hts _ q1315) (fun _ h9 => h9) rfl dJ29_checkForComodification_1 ?_
  refine g_get (ci := 25) hx hb hts in_J19 hown hG (hG.at 1 rfl) rfl 0 (Nat.le_of_ble_eq_true rfl) (hts _ q769) (u_same (hts _ q770)) rfl dJ29_checkForComodification_4 ?_
  refine lv_aload_n hx hb dJ29_checkForComodification_7 rfl (lv_at hl 0 rfl) ?_
  refine g_get (ci := 26) hx hb hts in_J29 hown hG (hG.at 0 rfl) rfl 2 (Nat.le_of_ble_eq_true rfl) (hts _ q1314) (fun _ h9 => h9) rfl dJ29_checkForComodification_8 ?_
  refine g_ceqs (tgt := 22) hx hb dJ29_checkForComodification_11 (by decide) (fun h1 => ?_) (fun h1 => ?_)
  · exact g_vret hx hb hr hlocks hG (⟨rfl, rfl, rfl⟩) ⟨Nat.le_of_ble_eq_true rfl, Nat.le_of_ble_eq_true rfl⟩ dJ29_checkForComodification_22
  · exact absurd rfl h1

set_option maxHeartbeats 4000000 in
theorem metJ29_next {l : Launch} {X : gX} {F : gF} {V : gV} {Z : va_W} {it al es cap j : Nat} {mo la : Int} {f : Nat → Option Nat} {L : List Nat} (hal : alR f cap L) (hj : j < L.length) : Met l yJ29_next (ws_ yJ29_next cJ29_next 3 (some (FieldType.object "java/lang/Object"))) ({ frames := 1, cells := 0, slots := 0, locals := 20 }) (gP X F V ((it, oB 26 [.int (zI (j : Int)), .int (zI la), .int (zI mo), .ref al]) :: (al, oB 25 [.int (zI mo), .ref es, .int (zI (L.length : Int))]) :: (es, aR (gT X 10) cap f) :: Z) [.ref it]) (gQr X (fun u G U ws => u = L.getD j 0 ∧ F = G ∧ V = U ∧ ((it, oB 26 [.int (zI ((j + 1 : Nat) : Int)), .int (zI (j : Int)), .int (zI mo), .ref al]) :: (al, oB 25 [.int (zI mo), .ref es, .int (zI (L.length : Int))]) :: (es, aR (gT X 10) cap f) :: Z) = ws)) 0 0 (gA X) := by
  refine Met.g (by decide) (Nat.le_of_ble_eq_true rfl) ?_
  intro p e s m below meth c ls hx hb hr hts hown hlocks hml hin hG hl
  have hl : lv_has ls 3 [(0, .ref it)] := hl
  have hcp := hal.2.1
  have hlc := hal.1
  refine lv_aload_n hx hb dJ29_next_0 rfl (lv_at hl 0 rfl) ?_
  refine g_cv (va_runV (As := []) (rest := []) ⟨hx, hb, hml, hown, hts⟩ (metJ29_checkForComodification) (cwV 0 hts (lw_V q1644 q1645 q1646 q132 q1649) rfl rfl rfl (by decide +kernel) ⟨Nat.le_of_ble_eq_true rfl, Nat.le_of_ble_eq_true rfl⟩) (g_preV hG (g_recv hG (hG.at 0 rfl) (ci := 26) rfl)) rfl rfl hl.1 rfl (lv_room (Nat.le_of_ble_eq_true rfl)) dJ29_next_1 ⟨Nat.le_of_ble_eq_true rfl, Nat.le_of_ble_eq_true rfl⟩) hG (fun F_2 V_3 ws_ H locs hp hG => ?_)
  obtain ⟨rfl, rfl, rfl⟩ := hp
  have hG : gW X F V ((it, oB 26 [.int (zI (j : Int)), .int (zI la), .int (zI mo), .ref al]) :: (al, oB 25 [.int (zI mo), .ref es, .int (zI (L.length : Int))]) :: (es, aR (gT X 10) cap f) :: Z) s H locs := hG
  refine lv_aload_n hx hb dJ29_next_4 rfl (lv_at hl 0 rfl) ?_
  refine g_get (ci := 26) hx hb hts in_J29 hown hG (hG.at 0 rfl) rfl 0 (Nat.le_of_ble_eq_true rfl) (hts _ q1312) (fun _ h9 => h9) rfl dJ29_next_5 ?_
  refine lv_istore_n (lv' := [(1, .int (zI (j : Int))), (0, .ref it)]) hx hb dJ29_next_8 rfl hl (by decide) rfl (fun ls hl => ?_)
  refine lv_iload_n hx hb dJ29_next_9 rfl (lv_at hl 0 rfl) ?_
  refine lv_aload_n hx hb dJ29_next_10 rfl (lv_at hl 1 rfl) ?_
  refine g_get (ci := 26) hx hb hts in_J29 hown hG (hG.at 0 rfl) rfl 3 (Nat.le_of_ble_eq_true rfl) (hts _ q1315) (fun _ h9 => h9) rfl dJ29_next_11 ?_
  refine g_getN (ci := 25) hx hb hts in_J19 hown hG (hG.at 1 rfl) rfl 2 (Nat.le_of_ble_eq_true rfl) (hG.1.2.1.1 _ qn764) (fun _ h9 => h9) rfl dJ29_next_14 ?_
  refine g_clt (tgt := 28) hx hb dJ29_next_17 (by decide) (by omega) (fun h1 => ?_) (fun h1 => ?_)
  · refine lv_aload_n hx hb dJ29_next_28 rfl (lv_at hl 1 rfl) ?_
    refine g_get (ci := 26) hx hb hts in_J29 hown hG (hG.at 0 rfl) rfl 3 (Nat.le_of_ble_eq_true rfl) (hts _ q1315) (fun _ h9 => h9) rfl dJ29_next_29 ?_
    refine g_get (ci := 25) hx hb hts in_J19 hown hG (hG.at 1 rfl) rfl 1 (Nat.le_of_ble_eq_true rfl) (hts _ q763) (fun _ h9 => h9) rfl dJ29_next_32 ?_
    refine lv_astore_n (lv' := [(2, .ref es), (1, .int (zI (j : Int))), (0, .ref it)]) hx hb dJ29_next_35 rfl hl (by decide) rfl (fun ls hl => ?_)
    refine lv_iload_n hx hb dJ29_next_36 rfl (lv_at hl 1 rfl) ?_
    refine lv_aload_n hx hb dJ29_next_37 rfl (lv_at hl 0 rfl) ?_
    refine g_alen hx hb hG 10 rfl (hG.at 2 rfl) dJ29_next_38 ?_
    refine g_clt (tgt := 50) hx hb dJ29_next_39 (by decide) (by omega) (fun h2 => ?_) (fun h2 => ?_)
    · refine lv_aload_n hx hb dJ29_next_50 rfl (lv_at hl 2 rfl) ?_
      refine lv_iload_n hx hb dJ29_next_51 rfl (lv_at hl 1 rfl) ?_
      refine lv_iconst (v := zI 1) hx hb dJ29_next_52 (by decide +kernel) ?_
      refine g_iadd hx hb dJ29_next_53 ?_
      refine g_put (ci := 26) hx hb hts in_J29 tyJ29 tyJ29_ok nmJ29 hown hG 0 rfl rfl 0 (Nat.le_of_ble_eq_true rfl) (hts _ q1312) (fun _ h9 => h9) rfl (tyJ29_ok 0 (Nat.le_of_ble_eq_true rfl)) rfl rfl (Nat.le_of_ble_eq_true rfl) dJ29_next_54 (fun H locs (hG : gW X F V ((it, oB 26 [.int (zI ((j : Int) + 1)), .int (zI la), .int (zI mo), .ref al]) :: (al, oB 25 [.int (zI mo), .ref es, .int (zI (L.length : Int))]) :: (es, aR (gT X 10) cap f) :: Z) s H locs) => ?_)
      refine lv_aload_n hx hb dJ29_next_57 rfl (lv_at hl 0 rfl) ?_
      refine lv_aload_n hx hb dJ29_next_58 rfl (lv_at hl 2 rfl) ?_
      refine lv_iload_n hx hb dJ29_next_59 rfl (lv_at hl 1 rfl) ?_
      refine lv_dup_x1 hx hb dJ29_next_60 rfl rfl ?_
      refine g_put (ci := 26) hx hb hts in_J29 tyJ29 tyJ29_ok nmJ29 hown hG 0 rfl rfl 1 (Nat.le_of_ble_eq_true rfl) (hts _ q1313) (fun _ h9 => h9) rfl (tyJ29_ok 1 (Nat.le_of_ble_eq_true rfl)) rfl rfl (Nat.le_of_ble_eq_true rfl) dJ29_next_61 (fun H locs (hG : gW X F V ((it, oB 26 [.int (zI ((j : Int) + 1)), .int (zI (j : Int)), .int (zI mo), .ref al]) :: (al, oB 25 [.int (zI mo), .ref es, .int (zI (L.length : Int))]) :: (es, aR (gT X 10) cap f) :: Z) s H locs) => ?_)
      refine g_aald hx hb hG 10 rfl rfl (hG.at 2 rfl) j ⟨rfl, by omega, by omega⟩ (v := .ref (L.getD j 0)) (congrArg va_rf (hal.2.2.1 j hj)) dJ29_next_64 ?_
      exact g_rret hx hb hr (Or.inl ⟨_, rfl⟩) hlocks hG (⟨rfl, rfl, rfl, by rw [show (((j + 1 : Nat)) : Int) = (j : Int) + 1 by omega]⟩) ⟨Nat.le_of_ble_eq_true rfl, Nat.le_of_ble_eq_true rfl⟩ dJ29_next_65
    · exfalso; omega
  · exfalso; omega

set_option maxHeartbeats 4000000 in
theorem metX0_rowOf_a {l : Launch} {X : gX} {F : gF} {V : gV} {Z : va_W} {al es cap : Nat} {mo : Int} {f : Nat → Option Nat} {L : List Nat} {t : Tx} (hal : alR f cap L) (hT : alT X F L t) (h24 : t.length ≤ 24) : Met l yX0_rowOf (ws_ yX0_rowOf cX0_rowOf 4 (some (FieldType.array (FieldType.object "LineRemarks$Line")))) ({ frames := 3, cells := 2, slots := 28, locals := 61 }) (gP X F V ((al, oB 25 [.int (zI mo), .ref es, .int (zI (L.length : Int))]) :: (es, aR (gT X 10) cap f) :: Z) [.ref al]) (gQr X (fun u G U ws => gLe F G ∧ V = U ∧ isText X G u t ∧ ((al, oB 25 [.int (zI mo), .ref es, .int (zI (L.length : Int))]) :: (es, aR (gT X 10) cap f) :: Z) = ws)) 2 28 (gA X) := by
  refine Met.g (by decide) (Nat.le_of_ble_eq_true rfl) ?_
  intro p e s m below meth c ls hx hb hr hts hown hlocks hml hin hG hl
  have hl : lv_has ls 4 [(0, .ref al)] := hl
  have hNt := hT.1
  refine lv_aload_n hx hb dX0_rowOf_0 rfl (lv_at hl 0 rfl) ?_
  refine g_Fi (va_runF (C := "java/util/ArrayList") (g_cls hG (ci := 25) rfl) (As := []) (rest := []) ⟨hx, hb, hml, hown, hts⟩ (metJ19_size) (va_cwF 0 hts (lw_F q1292 q1269 q926 q120 q927) rfl rfl rfl (hG.1.2.1.2.2.1 _ qf1) (by decide +kernel) ⟨Nat.le_of_ble_eq_true rfl, Nat.le_of_ble_eq_true rfl⟩) (g_preV hG (g_recv hG (hG.at 0 rfl) (ci := 25) rfl)) rfl rfl hl.1 rfl (lv_room (Nat.le_of_ble_eq_true rfl)) dX0_rowOf_1 ⟨Nat.le_of_ble_eq_true rfl, Nat.le_of_ble_eq_true rfl⟩) hG (fun r_1 F_2 V_3 ws_ H locs hp hG => ?_)
  obtain ⟨rfl, rfl, rfl, rfl⟩ := hp
  have hG : gW X F V ((al, oB 25 [.int (zI mo), .ref es, .int (zI (L.length : Int))]) :: (es, aR (gT X 10) cap f) :: Z) s H locs := hG
  refine g_newq hx hb hown (hts _ q1293) (hG.1.2.1.2.1 "LineRemarks$Line" (by decide)) 6 rfl hG (N := L.length) ⟨rfl, by omega⟩ ⟨by show _ ≤ 2; omega, by show _ ≤ 28; omega⟩ dX0_rowOf_6 (fun row H (hG : gW X F V ((row, aR (gT X 6) L.length (fun _ => none)) :: (al, oB 25 [.int (zI mo), .ref es, .int (zI (L.length : Int))]) :: (es, aR (gT X 10) cap f) :: Z) s H _) => ?_)
  refine lv_astore_n (lv' := [(1, .ref row), (0, .ref al)]) hx hb dX0_rowOf_9 rfl hl (by decide) rfl (fun ls hl => ?_)
  refine lv_iconst (v := zI 0) hx hb dX0_rowOf_10 (by decide +kernel) ?_
  refine lv_istore_n (lv' := [(2, .int (zI 0)), (1, .ref row), (0, .ref al)]) hx hb dX0_rowOf_11 rfl hl (by decide) rfl (fun ls hl => ?_)
  refine lv_aload_n hx hb dX0_rowOf_12 rfl (lv_at hl 2 rfl) ?_
  have hG : gW X F V ((al, oB 25 [.int (zI mo), .ref es, .int (zI (L.length : Int))]) :: (row, aR (gT X 6) L.length (fun _ => none)) :: (es, aR (gT X 10) cap f) :: Z) s _ _ := hG.pull 1 rfl rfl
  refine g_Fr (va_runF (C := "java/util/ArrayList") (g_cls hG (ci := 25) rfl) (As := []) (rest := []) ⟨hx, hb, hml, hown, hts⟩ (metJ19_iterator) (va_cwF 0 hts (lw_F q1296 q1299 q1301 q120 q1303) rfl rfl rfl (hG.1.2.1.2.2.1 _ qf2) (by decide +kernel) ⟨Nat.le_of_ble_eq_true rfl, Nat.le_of_ble_eq_true rfl⟩) (g_preV hG (g_recv hG (hG.at 0 rfl) (ci := 25) rfl)) rfl rfl hl.1 rfl (lv_room (Nat.le_of_ble_eq_true rfl)) dX0_rowOf_13 ⟨by show _ ≤ 2; omega, by show _ ≤ 28; omega⟩) hG (fun it F_4 V_5 ws_ H locs hp hG => ?_)
  obtain ⟨rfl, rfl, rfl⟩ := hp
  have hG : gW X F V ((it, oB 26 [.int (zI 0), .int (zI (-1)), .int (zI mo), .ref al]) :: (al, oB 25 [.int (zI mo), .ref es, .int (zI (L.length : Int))]) :: (row, aR (gT X 6) L.length (fun _ => none)) :: (es, aR (gT X 10) cap f) :: Z) s H locs := hG
  refine lv_astore_n (lv' := [(3, .ref it), (2, .int (zI 0)), (1, .ref row), (0, .ref al)]) hx hb dX0_rowOf_18 rfl hl (by decide) rfl (fun ls hl => ?_)
  have hG : gW X F V ((row, aR (gT X 6) L.length (fun _ => none)) :: (it, oB 26 [.int (zI 0), .int (zI (-1)), .int (zI mo), .ref al]) :: (al, oB 25 [.int (zI mo), .ref es, .int (zI (L.length : Int))]) :: (es, aR (gT X 10) cap f) :: Z) s _ _ := hG.pull 2 rfl rfl
  have hG : gW X F V ((es, aR (gT X 10) cap f) :: (row, aR (gT X 6) L.length (fun _ => none)) :: (it, oB 26 [.int (zI 0), .int (zI (-1)), .int (zI mo), .ref al]) :: (al, oB 25 [.int (zI mo), .ref es, .int (zI (L.length : Int))]) :: Z) s _ _ := hG.pull 3 rfl rfl
  have hG : gW X F V ((al, oB 25 [.int (zI mo), .ref es, .int (zI (L.length : Int))]) :: (es, aR (gT X 10) cap f) :: (row, aR (gT X 6) L.length (fun _ => none)) :: (it, oB 26 [.int (zI 0), .int (zI (-1)), .int (zI mo), .ref al]) :: Z) s _ _ := hG.pull 3 rfl rfl
  have hG : gW X F V ((it, oB 26 [.int (zI 0), .int (zI (-1)), .int (zI mo), .ref al]) :: (al, oB 25 [.int (zI mo), .ref es, .int (zI (L.length : Int))]) :: (es, aR (gT X 10) cap f) :: (row, aR (gT X 6) L.length (fun _ => none)) :: Z) s _ _ := hG.pull 3 rfl rfl
  refine g_loop (fun mz H locs ls => ∃ (k : Nat) (g : Nat → Option Nat) (la : Int), (k ≤ L.length ∧ mz = L.length - k ∧ ∀ i, i < k → g i = some (L.getD i 0)) ∧ gW X F V ((it, oB 26 [.int (zI ((k : Nat) : Int)), .int (zI la), .int (zI mo), .ref al]) :: (al, oB 25 [.int (zI mo), .ref es, .int (zI (L.length : Int))]) :: (es, aR (gT X 10) cap f) :: (row, aR (gT X 6) L.length g) :: Z) s H locs ∧ lv_has ls 4 [(0, .ref al), (1, .ref row), (2, .int (zI (k : Int))), (3, .ref it)]) (L.length - 0) ⟨0, _, _, ⟨Nat.zero_le _, rfl, fun i hi => absurd hi (Nat.not_lt_zero i)⟩, hG, (lv_sub hl [3, 2, 1, 0] rfl)⟩ (fun mz ihA H locs ls hI => ?_)
  obtain ⟨k, g, la, ⟨hk, hmz, hg⟩, hG, hl⟩ := hI
  refine lv_aload_n hx hb dX0_rowOf_19 rfl (lv_at hl 3 rfl) ?_
  rcases Nat.lt_or_ge k L.length with hk1 | hk1
  · refine g_Fi (va_runF (C := "java/util/ArrayList$Itr") (g_cls hG (ci := 26) rfl) (As := []) (rest := []) ⟨hx, hb, hml, hown, hts⟩ (metJ29_hasNext (j := k) (n := L.length) (by omega)) (va_cwF 0 hts (lw_F q1472 q1492 q1494 q132 q1496) rfl rfl rfl (hG.1.2.1.2.2.1 _ qf11) (by decide +kernel) ⟨Nat.le_of_ble_eq_true rfl, Nat.le_of_ble_eq_true rfl⟩) (g_preV hG (g_recv hG (hG.at 0 rfl) (ci := 26) rfl)) rfl rfl hl.1 rfl (lv_room (Nat.le_of_ble_eq_true rfl)) dX0_rowOf_20 ⟨by show _ ≤ 2; omega, by show _ ≤ 28; omega⟩) hG (fun r_6 F_7 V_8 ws_ H locs hp hG => ?_)
    obtain ⟨rfl, rfl, rfl, rfl⟩ := hp
    have hG : gW X F V ((it, oB 26 [.int (zI ((k : Nat) : Int)), .int (zI la), .int (zI mo), .ref al]) :: (al, oB 25 [.int (zI mo), .ref es, .int (zI (L.length : Int))]) :: (es, aR (gT X 10) cap f) :: (row, aR (gT X 6) L.length g) :: Z) s H locs := hG
    refine g_topz (y := 1) (by rw [decide_eq_true hk1]; rfl) ?_
    refine g_eq (tgt := 46) hx hb dX0_rowOf_25 (by decide) (by decide) (fun h2 => ?_) (fun h2 => ?_)
    · exfalso; omega
    · refine lv_aload_n hx hb dX0_rowOf_28 rfl (lv_at hl 1 rfl) ?_
      refine lv_iload_n hx hb dX0_rowOf_29 rfl (lv_at hl 2 rfl) ?_
      refine lv_aload_n hx hb dX0_rowOf_30 rfl (lv_at hl 3 rfl) ?_
      refine g_Fr (va_runF (C := "java/util/ArrayList$Itr") (g_cls hG (ci := 26) rfl) (As := []) (rest := [.int (zI (k : Int)), .ref row]) ⟨hx, hb, hml, hown, hts⟩ (metJ29_next (j := k) hal hk1) (va_cwF 0 hts (lw_F q1513 q1639 q1641 q132 q1643) rfl rfl rfl (hG.1.2.1.2.2.1 _ qf12) (by decide +kernel) ⟨Nat.le_of_ble_eq_true rfl, Nat.le_of_ble_eq_true rfl⟩) (g_preV hG (g_recv hG (hG.at 0 rfl) (ci := 26) rfl)) rfl rfl hl.1 rfl (lv_room (Nat.le_of_ble_eq_true rfl)) dX0_rowOf_31 ⟨by show _ ≤ 2; omega, by show _ ≤ 28; omega⟩) hG (fun r_9 F_10 V_11 ws_ H locs hp hG => ?_)
      obtain ⟨rfl, rfl, rfl, rfl⟩ := hp
      have hG : gW X F V ((it, oB 26 [.int (zI ((k + 1 : Nat) : Int)), .int (zI (k : Int)), .int (zI mo), .ref al]) :: (al, oB 25 [.int (zI mo), .ref es, .int (zI (L.length : Int))]) :: (es, aR (gT X 10) cap f) :: (row, aR (gT X 6) L.length g) :: Z) s H locs := hG
      refine va_castE hx hb hown (hts _ q1293) ((hT.2 k (by omega)).recv hG) dX0_rowOf_36 ?_
      refine g_aast hx hb hG 3 rfl 6 rfl ((hT.2 k (by omega)).recv hG) (fun _ _ h1 h2 => by cases h1.symm.trans h2; exact va_asg _ _) cls_ex k ⟨rfl, by omega, by omega⟩ dX0_rowOf_39 (fun H locs (hG : gW X F V ((it, oB 26 [.int (zI ((k + 1 : Nat) : Int)), .int (zI (k : Int)), .int (zI mo), .ref al]) :: (al, oB 25 [.int (zI mo), .ref es, .int (zI (L.length : Int))]) :: (es, aR (gT X 10) cap f) :: (row, aR (gT X 6) L.length (va_up g k (some (L.getD k 0)))) :: Z) s H locs) => ?_)
      refine lv_iinc (v := zI ((k : Int) + 1 : Int)) (lv' := [(2, .int (zI ((k : Int) + 1 : Int))), (0, .ref al), (1, .ref row), (3, .ref it)]) hx hb dX0_rowOf_40 hl (k := 2) rfl ((zI_add _ _).trans (congrArg zI (by omega))) (by decide) rfl (fun ls hl => ?_)
      refine lv_goto (tgt := 19) hx hb dX0_rowOf_43 (by decide) ?_
      have hl : lv_has ls 4 [(2, .int (zI ((k + 1 : Nat) : Int))), (0, .ref al), (1, .ref row), (3, .ref it)] := by exact hl
      exact ihA (L.length - (k + 1)) (by omega) H locs ls ⟨(k + 1), _, _, ⟨by omega, rfl, fun i hi => by by_cases h9 : i = k; (rw [h9, va_up_self]); (rw [va_up_ne _ _ h9]; exact hg i (by omega))⟩, hG, (lv_sub hl [1, 2, 0, 3] rfl)⟩
  · refine g_Fi (va_runF (C := "java/util/ArrayList$Itr") (g_cls hG (ci := 26) rfl) (As := []) (rest := []) ⟨hx, hb, hml, hown, hts⟩ (metJ29_hasNext (j := k) (n := L.length) (by omega)) (va_cwF 0 hts (lw_F q1472 q1492 q1494 q132 q1496) rfl rfl rfl (hG.1.2.1.2.2.1 _ qf11) (by decide +kernel) ⟨Nat.le_of_ble_eq_true rfl, Nat.le_of_ble_eq_true rfl⟩) (g_preV hG (g_recv hG (hG.at 0 rfl) (ci := 26) rfl)) rfl rfl hl.1 rfl (lv_room (Nat.le_of_ble_eq_true rfl)) dX0_rowOf_20 ⟨by show _ ≤ 2; omega, by show _ ≤ 28; omega⟩) hG (fun r_12 F_13 V_14 ws_ H locs hp hG => ?_)
    obtain ⟨rfl, rfl, rfl, rfl⟩ := hp
    have hG : gW X F V ((it, oB 26 [.int (zI ((k : Nat) : Int)), .int (zI la), .int (zI mo), .ref al]) :: (al, oB 25 [.int (zI mo), .ref es, .int (zI (L.length : Int))]) :: (es, aR (gT X 10) cap f) :: (row, aR (gT X 6) L.length g) :: Z) s H locs := hG
    refine g_topz (y := 0) (by rw [decide_eq_false (by omega)]; rfl) ?_
    refine g_eq (tgt := 46) hx hb dX0_rowOf_25 (by decide) (by decide) (fun h2 => ?_) (fun h2 => ?_)
    · refine lv_aload_n hx hb dX0_rowOf_46 rfl (lv_at hl 1 rfl) ?_
      have hG : gW X F V ((row, aR (gT X 6) L.length g) :: (it, oB 26 [.int (zI ((k : Nat) : Int)), .int (zI la), .int (zI mo), .ref al]) :: (al, oB 25 [.int (zI mo), .ref es, .int (zI (L.length : Int))]) :: (es, aR (gT X 10) cap f) :: Z) s _ _ := hG.pull 3 rfl rfl
      obtain ⟨G1, hle_G1, hrow, hG⟩ := hG.freeze
      have hG : gW X G1 V ((it, oB 26 [.int (zI ((k : Nat) : Int)), .int (zI la), .int (zI mo), .ref al]) :: (al, oB 25 [.int (zI mo), .ref es, .int (zI (L.length : Int))]) :: (es, aR (gT X 10) cap f) :: Z) s _ _ := hG
      have hG : gW X G1 V ((al, oB 25 [.int (zI mo), .ref es, .int (zI (L.length : Int))]) :: (es, aR (gT X 10) cap f) :: Z) s _ _ := hG.drop 0 rfl rfl
      exact g_rret hx hb hr (Or.inr ⟨_, rfl⟩) hlocks hG (⟨hle_G1, rfl, hT.text hle_G1 h24 hrow (fun i hi => hg i (by omega)), rfl⟩) ⟨by show _ ≤ 2; omega, by show _ ≤ 28; omega⟩ dX0_rowOf_47
    · exfalso; omega

set_option maxHeartbeats 4000000 in
theorem metX0_rowOf_z {l : Launch} {X : gX} {F : gF} {V : gV} {Z : va_W} {al : Nat} {mo : Int} : Met l yX0_rowOf (ws_ yX0_rowOf cX0_rowOf 4 (some (FieldType.array (FieldType.object "LineRemarks$Line")))) ({ frames := 3, cells := 2, slots := 28, locals := 61 }) (gP X F V ((al, oB 25 [.int (zI mo), .ref (ga X 300), .int (zI 0)]) :: Z) [.ref al]) (gQr X (fun u G U ws => gLe F G ∧ V = U ∧ isText X G u [] ∧ ((al, oB 25 [.int (zI mo), .ref (ga X 300), .int (zI 0)]) :: Z) = ws)) 2 28 (gA X) := by
  refine Met.g (by decide) (Nat.le_of_ble_eq_true rfl) ?_
  intro p e s m below meth c ls hx hb hr hts hown hlocks hml hin hG hl
  have hl : lv_has ls 4 [(0, .ref al)] := hl
  refine lv_aload_n hx hb dX0_rowOf_0 rfl (lv_at hl 0 rfl) ?_
  refine g_Fi (va_runF (C := "java/util/ArrayList") (g_cls hG (ci := 25) rfl) (As := []) (rest := []) ⟨hx, hb, hml, hown, hts⟩ (metJ19_size) (va_cwF 0 hts (lw_F q1292 q1269 q926 q120 q927) rfl rfl rfl (hG.1.2.1.2.2.1 _ qf1) (by decide +kernel) ⟨Nat.le_of_ble_eq_true rfl, Nat.le_of_ble_eq_true rfl⟩) (g_preV hG (g_recv hG (hG.at 0 rfl) (ci := 25) rfl)) rfl rfl hl.1 rfl (lv_room (Nat.le_of_ble_eq_true rfl)) dX0_rowOf_1 ⟨Nat.le_of_ble_eq_true rfl, Nat.le_of_ble_eq_true rfl⟩) hG (fun r_1 F_2 V_3 ws_ H locs hp hG => ?_)
  obtain ⟨rfl, rfl, rfl, rfl⟩ := hp
  have hG : gW X F V ((al, oB 25 [.int (zI mo), .ref (ga X 300), .int (zI 0)]) :: Z) s H locs := hG
  refine g_newq hx hb hown (hts _ q1293) (hG.1.2.1.2.1 "LineRemarks$Line" (by decide)) 6 rfl hG (N := 0) ⟨rfl, by decide⟩ ⟨Nat.le_of_ble_eq_true rfl, Nat.le_of_ble_eq_true rfl⟩ dX0_rowOf_6 (fun row H (hG : gW X F V ((row, aR (gT X 6) 0 (fun _ => none)) :: (al, oB 25 [.int (zI mo), .ref (ga X 300), .int (zI 0)]) :: Z) s H _) => ?_)
  refine lv_astore_n (lv' := [(1, .ref row), (0, .ref al)]) hx hb dX0_rowOf_9 rfl hl (by decide) rfl (fun ls hl => ?_)
  refine lv_iconst (v := zI 0) hx hb dX0_rowOf_10 (by decide +kernel) ?_
  refine lv_istore_n (lv' := [(2, .int (zI 0)), (1, .ref row), (0, .ref al)]) hx hb dX0_rowOf_11 rfl hl (by decide) rfl (fun ls hl => ?_)
  refine lv_aload_n hx hb dX0_rowOf_12 rfl (lv_at hl 2 rfl) ?_
  have hG : gW X F V ((al, oB 25 [.int (zI mo), .ref (ga X 300), .int (zI 0)]) :: (row, aR (gT X 6) 0 (fun _ => none)) :: Z) s _ _ := hG.pull 1 rfl rfl
  refine g_Fr (va_runF (C := "java/util/ArrayList") (g_cls hG (ci := 25) rfl) (As := []) (rest := []) ⟨hx, hb, hml, hown, hts⟩ (metJ19_iterator) (va_cwF 0 hts (lw_F q1296 q1299 q1301 q120 q1303) rfl rfl rfl (hG.1.2.1.2.2.1 _ qf2) (by decide +kernel) ⟨Nat.le_of_ble_eq_true rfl, Nat.le_of_ble_eq_true rfl⟩) (g_preV hG (g_recv hG (hG.at 0 rfl) (ci := 25) rfl)) rfl rfl hl.1 rfl (lv_room (Nat.le_of_ble_eq_true rfl)) dX0_rowOf_13 ⟨Nat.le_of_ble_eq_true rfl, Nat.le_of_ble_eq_true rfl⟩) hG (fun it F_4 V_5 ws_ H locs hp hG => ?_)
  obtain ⟨rfl, rfl, rfl⟩ := hp
  have hG : gW X F V ((it, oB 26 [.int (zI 0), .int (zI (-1)), .int (zI mo), .ref al]) :: (al, oB 25 [.int (zI mo), .ref (ga X 300), .int (zI 0)]) :: (row, aR (gT X 6) 0 (fun _ => none)) :: Z) s H locs := hG
  refine lv_astore_n (lv' := [(3, .ref it), (2, .int (zI 0)), (1, .ref row), (0, .ref al)]) hx hb dX0_rowOf_18 rfl hl (by decide) rfl (fun ls hl => ?_)
  refine lv_aload_n hx hb dX0_rowOf_19 rfl (lv_at hl 0 rfl) ?_
  refine g_Fi (va_runF (C := "java/util/ArrayList$Itr") (g_cls hG (ci := 26) rfl) (As := []) (rest := []) ⟨hx, hb, hml, hown, hts⟩ (metJ29_hasNext (j := 0) (n := 0) (by decide)) (va_cwF 0 hts (lw_F q1472 q1492 q1494 q132 q1496) rfl rfl rfl (hG.1.2.1.2.2.1 _ qf11) (by decide +kernel) ⟨Nat.le_of_ble_eq_true rfl, Nat.le_of_ble_eq_true rfl⟩) (g_preV hG (g_recv hG (hG.at 0 rfl) (ci := 26) rfl)) rfl rfl hl.1 rfl (lv_room (Nat.le_of_ble_eq_true rfl)) dX0_rowOf_20 ⟨Nat.le_of_ble_eq_true rfl, Nat.le_of_ble_eq_true rfl⟩) hG (fun r_6 F_7 V_8 ws_ H locs hp hG => ?_)
  obtain ⟨rfl, rfl, rfl, rfl⟩ := hp
  have hG : gW X F V ((it, oB 26 [.int (zI 0), .int (zI (-1)), .int (zI mo), .ref al]) :: (al, oB 25 [.int (zI mo), .ref (ga X 300), .int (zI 0)]) :: (row, aR (gT X 6) 0 (fun _ => none)) :: Z) s H locs := hG
  refine g_topz (y := 0) rfl ?_
  refine g_eq (tgt := 46) hx hb dX0_rowOf_25 (by decide) (by decide) (fun h1 => ?_) (fun h1 => ?_)
  · refine lv_aload_n hx hb dX0_rowOf_46 rfl (lv_at hl 2 rfl) ?_
    have hG : gW X F V ((row, aR (gT X 6) 0 (fun _ => none)) :: (it, oB 26 [.int (zI 0), .int (zI (-1)), .int (zI mo), .ref al]) :: (al, oB 25 [.int (zI mo), .ref (ga X 300), .int (zI 0)]) :: Z) s _ _ := hG.pull 2 rfl rfl
    obtain ⟨G1, hle_G1, hrow, hG⟩ := hG.freeze
    have hG : gW X G1 V ((it, oB 26 [.int (zI 0), .int (zI (-1)), .int (zI mo), .ref al]) :: (al, oB 25 [.int (zI mo), .ref (ga X 300), .int (zI 0)]) :: Z) s _ _ := hG
    have hG : gW X G1 V ((al, oB 25 [.int (zI mo), .ref (ga X 300), .int (zI 0)]) :: Z) s _ _ := hG.drop 0 rfl rfl
    exact g_rret hx hb hr (Or.inr ⟨_, rfl⟩) hlocks hG (⟨hle_G1, rfl, ⟨_, hrow, by decide, fun i cs hi => by cases hi⟩, rfl⟩) ⟨Nat.le_of_ble_eq_true rfl, Nat.le_of_ble_eq_true rfl⟩ dX0_rowOf_47
  · exfalso; omega

