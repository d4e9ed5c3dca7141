set_option maxRecDepth 100000
theorem ln_le {cs : Ln} (h : ∀ c ∈ cs, 97 ≤ c ∧ c ≤ 122) (k : Nat) : cs.getD k 0 ≤ 122 := by
  rw [List.getD_eq_getElem?_getD]
  cases hk : cs[k]? with
  | none => exact Nat.zero_le _
  | some c => exact (h c (List.mem_of_getElem? hk)).2
theorem ln_ext {cs ds : Ln} (hl : cs.length = ds.length) (h : ∀ j, j < cs.length → cs.getD j 0 = ds.getD j 0) : cs = ds := by
  refine List.ext_getElem hl fun j h1 h2 => ?_
  have h3 := h j h1
  rw [List.getD_eq_getElem?_getD, List.getD_eq_getElem?_getD, List.getElem?_eq_getElem h1, List.getElem?_eq_getElem h2] at h3
  exact h3
set_option maxHeartbeats 4000000 in
theorem metX13_isAlike {l : Launch} {X : gX} {F : gF} {V : gV} {Z : va_W} {a b : Nat} {cs ds : Ln} (ha : isLine X F a cs) (hd : isLine X F b ds) : Met l yX13_isAlike (ws_ yX13_isAlike cX13_isAlike 3 (some FieldType.boolean)) ({ frames := 0, cells := 0, slots := 0, locals := 0 }) (gP X F V (Z) [.ref a, .ref b]) (gQi X (fun u G U ws => u = zI (if cs = ds then 1 else 0) ∧ F = G ∧ V = U ∧ Z = ws)) 0 0 (gA X) := by
  refine Met.g (by decide) (Nat.le_of_ble_eq_true rfl) ?_
  intro p e s m below meth c ls hx hb hr hts hown hlocks hml hin hG hl
  have hl : lv_has ls 3 [(0, .ref a), (1, .ref b)] := hl
  obtain ⟨a1, fa, ha1, ha2, ha3, ha4, ha5⟩ := ha
  obtain ⟨b1, fb, hd1, hd2, hd3, hd4, hd5⟩ := hd
  refine lv_aload_n hx hb dX13_isAlike_0 rfl (lv_at hl 0 rfl) ?_
  refine g_get (ci := 11) hx hb hts in_X13 hown hG (hG.fz ha1) rfl 0 (Nat.le_of_ble_eq_true rfl) (hts _ q865) (fun _ h9 => h9) rfl dX13_isAlike_1 ?_
  refine g_alen hx hb hG 2 rfl (hG.fz ha2) dX13_isAlike_4 ?_
  refine lv_aload_n hx hb dX13_isAlike_5 rfl (lv_at hl 1 rfl) ?_
  refine g_get (ci := 11) hx hb hts in_X13 hown hG (hG.fz hd1) rfl 0 (Nat.le_of_ble_eq_true rfl) (hts _ q865) (fun _ h9 => h9) rfl dX13_isAlike_6 ?_
  refine g_alen hx hb hG 2 rfl (hG.fz hd2) dX13_isAlike_9 ?_
  refine g_ceq (tgt := 15) hx hb dX13_isAlike_10 (by decide) (by omega) (fun h1 => ?_) (fun h1 => ?_)
  · refine lv_iconst (v := zI 0) hx hb dX13_isAlike_15 (by decide +kernel) ?_
    refine lv_istore_n (lv' := [(2, .int (zI 0)), (0, .ref a), (1, .ref b)]) hx hb dX13_isAlike_16 rfl hl (by decide) rfl (fun ls hl => ?_)
    refine g_loop (fun n H locs ls => ∃ k : Nat, (k ≤ cs.length ∧ n = cs.length - k ∧ ∀ j, j < k → cs.getD j 0 = ds.getD j 0) ∧ gW X F V (Z) s H locs ∧ lv_has ls 3 [(2, .int (zI k)), (0, .ref a), (1, .ref b)]) cs.length (⟨0, ⟨by omega, rfl, fun j hj => by omega⟩, hG, hl⟩) (fun n ih H locs ls hI => ?_)
    obtain ⟨k, hi, hG, hl⟩ := hI
    refine lv_iload_n hx hb dX13_isAlike_17 rfl (lv_at hl 0 rfl) ?_
    refine lv_aload_n hx hb dX13_isAlike_18 rfl (lv_at hl 1 rfl) ?_
    refine g_get (ci := 11) hx hb hts in_X13 hown hG (hG.fz ha1) rfl 0 (Nat.le_of_ble_eq_true rfl) (hts _ q865) (fun _ h9 => h9) rfl dX13_isAlike_19 ?_
    refine g_alen hx hb hG 2 rfl (hG.fz ha2) dX13_isAlike_22 ?_
    refine g_cge (tgt := 49) hx hb dX13_isAlike_23 (by decide) (by omega) (fun h2 => ?_) (fun h2 => ?_)
    · refine lv_iconst (v := zI 1) hx hb dX13_isAlike_49 (by decide +kernel) ?_
      exact g_zret hx hb hr hlocks rfl hG (⟨by rw [if_pos (ln_ext (by omega) (fun j hj => hi.2.2 j (by omega)))], rfl, rfl, rfl⟩) ⟨Nat.le_of_ble_eq_true rfl, Nat.le_of_ble_eq_true rfl⟩ dX13_isAlike_50
    · have g1 := ln_le ha5 k
      have g2 := ln_le hd5 k
      refine lv_aload_n hx hb dX13_isAlike_26 rfl (lv_at hl 1 rfl) ?_
      refine g_get (ci := 11) hx hb hts in_X13 hown hG (hG.fz ha1) rfl 0 (Nat.le_of_ble_eq_true rfl) (hts _ q865) (fun _ h9 => h9) rfl dX13_isAlike_27 ?_
      refine lv_iload_n hx hb dX13_isAlike_30 rfl (lv_at hl 0 rfl) ?_
      refine g_cald hx hb hG (hG.fz ha2) k ⟨rfl, by omega, by omega⟩ (v := zI (cs.getD k 0 : Nat)) (ha3 k (by omega)) dX13_isAlike_31 ?_
      refine lv_aload_n hx hb dX13_isAlike_32 rfl (lv_at hl 2 rfl) ?_
      refine g_get (ci := 11) hx hb hts in_X13 hown hG (hG.fz hd1) rfl 0 (Nat.le_of_ble_eq_true rfl) (hts _ q865) (fun _ h9 => h9) rfl dX13_isAlike_33 ?_
      refine lv_iload_n hx hb dX13_isAlike_36 rfl (lv_at hl 0 rfl) ?_
      refine g_cald hx hb hG (hG.fz hd2) k ⟨rfl, by omega, by omega⟩ (v := zI (ds.getD k 0 : Nat)) (hd3 k (by omega)) dX13_isAlike_37 ?_
      refine g_ceq (tgt := 43) hx hb dX13_isAlike_38 (by decide) (by omega) (fun h3 => ?_) (fun h3 => ?_)
      · refine lv_iinc (v := zI (k + 1 : Int)) (lv' := [(2, .int (zI (k + 1 : Int))), (0, .ref a), (1, .ref b)]) hx hb dX13_isAlike_43 hl (k := 0) rfl ((zI_add _ _).trans (congrArg zI (by omega))) (by decide) rfl (fun ls hl => ?_)
        refine lv_goto (tgt := 17) hx hb dX13_isAlike_46 (by decide) ?_
        exact ih (cs.length - (k + 1)) (by omega) H locs ls ⟨k + 1, ⟨by omega, rfl, fun j hj => (Nat.lt_succ_iff_lt_or_eq.mp hj).elim (hi.2.2 j) (fun q => by subst q; omega)⟩, hG, hl⟩
      · refine lv_iconst (v := zI 0) hx hb dX13_isAlike_41 (by decide +kernel) ?_
        exact g_zret hx hb hr hlocks rfl hG (⟨by rw [if_neg (fun h => h3 (by rw [h]))], rfl, rfl, rfl⟩) ⟨Nat.le_of_ble_eq_true rfl, Nat.le_of_ble_eq_true rfl⟩ dX13_isAlike_42
  · refine lv_iconst (v := zI 0) hx hb dX13_isAlike_13 (by decide +kernel) ?_
    exact g_zret hx hb hr hlocks rfl hG (⟨by rw [if_neg (fun h => h1 (by rw [h]))], rfl, rfl, rfl⟩) ⟨Nat.le_of_ble_eq_true rfl, Nat.le_of_ble_eq_true rfl⟩ dX13_isAlike_14

