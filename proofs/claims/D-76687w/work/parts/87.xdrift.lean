set_option maxRecDepth 100000
/-- a list of lines -/
def llT (X : gX) (F : gF) (N : List Nd) (t : Tx) : Prop := N.length = t.length ∧ ∀ i, i < t.length → isLine X F (nT N i) (t.getD i [])
theorem llT.mono {X : gX} {F G : gF} {N : List Nd} {t : Tx} (h : llT X F N t) (hl : gLe F G) : llT X G N t := ⟨h.1, fun i hi => (h.2 i hi).mono hl⟩
theorem llT.ins {X : gX} {F : gF} {N : List Nd} {t : Tx} (h : llT X F N t) {i B a e : Nat} {x : Ln} (hi : i ≤ t.length) (hl : isLine X F e x) : llT X F (insN N i (B, a, e)) (insT t i x) := by
  refine ⟨by rw [insN_len (by rw [h.1]; exact hi), insT_len hi, h.1], fun j hj => ?_⟩
  rw [insT_len hi] at hj
  show isLine X F (nG (insN N i (B, a, e)) j).2.2 _
  rw [insN_get (by rw [h.1]; exact hi), insT_get hi]
  by_cases h1 : j < i
  · rw [if_pos h1, if_pos h1]; exact h.2 j (by omega)
  · rw [if_neg h1, if_neg h1]
    by_cases h2 : j = i
    · rw [if_pos h2, if_pos h2]; exact hl
    · rw [if_neg h2, if_neg h2]; exact h.2 (j - 1) (by omega)
theorem llT.rem {X : gX} {F : gF} {N : List Nd} {t : Tx} (h : llT X F N t) {i : Nat} (hi : i < t.length) : llT X F (N.eraseIdx i) (rmT t i) := by
  refine ⟨by rw [List.length_eraseIdx_of_lt (by rw [h.1]; exact hi), rmT_len hi, h.1], fun j hj => ?_⟩
  rw [rmT_len hi] at hj
  show isLine X F (nG (N.eraseIdx i) j).2.2 _
  rw [rmN_get, rmT_get hi]
  by_cases h1 : j < i
  · rw [if_pos h1, if_pos h1]; exact h.2 j (by omega)
  · rw [if_neg h1, if_neg h1]; exact h.2 (j + 1) (by omega)
theorem llT.put {X : gX} {F : gF} {N : List Nd} {t : Tx} (h : llT X F N t) {i e : Nat} {x : Ln} (hi : i < t.length) (hl : isLine X F e x) : llT X F (N.set i (nR N i, nA N i, e)) (t.set i x) := by
  refine ⟨by rw [List.length_set, List.length_set, h.1], fun j hj => ?_⟩
  rw [List.length_set] at hj
  rw [gD_set _ _ _ _ hi]
  show isLine X F (nG (N.set i (nR N i, nA N i, e)) j).2.2 _
  unfold nG
  rw [List.getD_eq_getElem?_getD, List.getElem?_set]
  by_cases h1 : i = j
  · subst h1; rw [if_pos rfl, if_pos (by rw [h.1]; exact hi), if_pos rfl]; exact hl
  · rw [if_neg h1, if_neg (fun q => h1 q.symm), ← List.getD_eq_getElem?_getD]; exact h.2 j hj
theorem llT.text {X : gX} {F G : gF} {N : List Nd} {t : Tx} {a : Nat} {f : Nat → Option Nat} (h : llT X F N t) (hl : gLe F G) (h24 : t.length ≤ 24) (hr : G.1 a = some (aR (gT X 6) N.length f)) (hf : ∀ i, i < N.length → f i = some (nT N i)) : isText X G a t := by
  rw [h.1] at hr
  refine ⟨f, hr, h24, fun i cs hi => ?_⟩
  have hil := (List.getElem?_eq_some_iff.mp hi).1
  refine ⟨nT N i, hf i (by rw [h.1]; exact hil), ?_⟩
  have := h.2 i hil
  rw [List.getD_eq_getElem?_getD, hi] at this
  exact this.mono hl
theorem isLine_mk {X : gX} {G : gF} {a q n : Nat} {f : Nat → Int32} {cs : Ln} (h1 : G.1 a = some (oB ciLine [.ref q])) (h2 : G.1 q = some (aI (gT X 2) n (va_cpy f (fun _ => 0) 0 0 n))) (hn : n = cs.length) (hf : ∀ j, j < n → f j = zI (cs.getD j 0 : Nat)) (ok : lnOK cs) : isLine X G a cs := by
  subst hn
  refine ⟨q, _, h1, h2, fun j hj => ?_, ok.1, ok.2⟩
  show (if 0 ≤ j ∧ j < 0 + cs.length then f (0 + (j - 0)) else 0) = _
  rw [if_pos (by omega), Nat.sub_zero, Nat.zero_add]; exact hf j hj
theorem zI_n16 {z : Int} (h : 0 ≤ z ∧ z < 65536) : narrow .char (.int (zI z)) = .int (zI z) := by
  obtain ⟨n, rfl⟩ : ∃ n : Nat, z = n := ⟨z.toNat, by omega⟩
  show Value.int ((zI (n : Int)).toUInt32.toUInt16.toUInt32.toInt32) = _
  congr 1
  refine zI_ofN ?_ (by omega)
  rw [UInt32.toBitVec_toInt32, UInt16.toBitVec_toUInt32, UInt32.toBitVec_toUInt16, show (zI (n : Int)).toUInt32.toBitVec = (zI (n : Int)).toBitVec from rfl, BitVec.toNat_setWidth, BitVec.toNat_setWidth, zI_bv n (by omega)]
  show n % 65536 % 4294967296 = n
  omega
theorem zI_f16 {z : Int} (h : 0 ≤ z ∧ z < 65536) : fits .char (.int (zI z)) = true := by
  have h1 : (0 : Int32) ≤ zI z := by rw [zI_0]; exact (zI_le ⟨by decide, ⟨by omega, by omega⟩⟩).mpr h.1
  have h2 : zI z ≤ (65535 : Int32) := by rw [show (65535 : Int32) = zI 65535 by decide +kernel]; exact (zI_le ⟨⟨by omega, by omega⟩, by decide⟩).mpr (by omega)
  show (decide (0 ≤ zI z) && decide (zI z ≤ 65535)) = true
  rw [decide_eq_true h1, decide_eq_true h2]; rfl
/-- the roles below the nodes but the world's stay -/
def vxD (V U : gV) : Prop := ∀ r, r < 100 → (r < 4 ∨ 8 ≤ r) → U r = V r
theorem vxD.rf {V : gV} : vxD V V := fun _ _ _ => rfl
theorem vxD.tr {V U W : gV} (h : vxD V U) (k : vxD U W) : vxD V W := fun r a b => (k r a b).trans (h r a b)
theorem vx100.d {V U : gV} (h : vx100 V U) : vxD V U := fun r a _ => h r a
theorem vxB.d {V U : gV} (h : vxB 4 V U) : vxD V U := fun r _ b => h r (b.elim Or.inl Or.inr)
theorem llT_app {X : gX} {F : gF} {N : List Nd} {t : Tx} {j B a e : Nat} (h1 : N.length = j) (h2 : ∀ i, i < j → isLine X F (nT N i) (t.getD i [])) (hl : isLine X F e (t.getD j [])) : (insN N N.length (B, a, e)).length = j + 1 ∧ ∀ i, i < j + 1 → isLine X F (nT (insN N N.length (B, a, e)) i) (t.getD i []) := by
  refine ⟨by rw [insN_len (Nat.le_refl _), h1], fun i hi => ?_⟩
  show isLine X F (nG (insN N N.length (B, a, e)) i).2.2 _
  rw [insN_get (Nat.le_refl _), h1]
  by_cases h3 : i < j
  · rw [if_pos h3]; exact h2 i h3
  · rw [if_neg h3, if_pos (by omega), show i = j by omega]; exact hl
theorem insT_0 (t : Tx) (x : Ln) : insT t 0 x = x :: t := rfl
set_option maxHeartbeats 4000000 in
theorem metX13_init {l : Launch} {X : gX} {F : gF} {V : gV} {Z : va_W} {ln ar n m9 : Nat} {f : Nat → Int32} (hn : n ≤ m9 ∧ m9 ≤ 8) (hc : ∀ i, i < n → fits .char (.int (f i)) = true) : Met l yX13_init (ws_ yX13_init cX13_init 3 none) ({ frames := 1, cells := 1, slots := 8, locals := 38 }) (gP X F V ((ln, oB 11 [.null]) :: (ar, aI (gT X 2) m9 f) :: Z) [.ref ln, .ref ar, .int (zI (n : Int))]) (gQv X (fun G U ws => F = G ∧ V = U ∧ ∃ q9 : Nat, ((ln, oB 11 [.ref q9]) :: (q9, aI (gT X 2) n (va_cpy f (fun _ => 0) 0 0 n)) :: (ar, aI (gT X 2) m9 f) :: Z) = ws)) 1 8 (gA X) := by
  refine Met.g (by decide) (Nat.le_of_ble_eq_true rfl) ?_
  intro p e s m below meth c ls hx hb hr hts hown hlocks hml hin hG hl
  have hl : lv_has ls 3 [(0, .ref ln), (1, .ref ar), (2, .int (zI (n : Int)))] := hl
  refine lv_aload_n hx hb dX13_init_0 rfl (lv_at hl 0 rfl) ?_
  refine W.objInit hx hb hown (hts _ q863) (hts _ q170) (hts _ q171) rfl (by rw [hml]; exact hl.1) rfl dX13_init_1 (Nat.le_of_ble_eq_true rfl) (Nat.le_of_ble_eq_true rfl) ?_
  refine W.eq (g2 := F0 m 4 ls []) rfl ?_
  refine lv_aload_n hx hb dX13_init_4 rfl (lv_at hl 0 rfl) ?_
  refine lv_iload_n hx hb dX13_init_5 rfl (lv_at hl 2 rfl) ?_
  refine g_newa (atype := .char) hx hb (hts _ q781) 2 rfl rfl (fun h => h) hG (N := n) (a0 := (n, .inl (fun _ => 0))) (fun _ => rfl) ⟨rfl, by omega⟩ (by decide) ⟨by show _ ≤ 1; omega, by show _ ≤ 8; omega⟩ dX13_init_6 (fun q9 H (hG : gW X F V ((q9, aI (gT X 2) n (fun _ => 0)) :: (ln, oB 11 [.null]) :: (ar, aI (gT X 2) m9 f) :: Z) s H _) => ?_)
  refine g_putF (ci := 11) hx hb hts in_X13 tyX13 tyX13_ok nmX13 hown hin hG 1 rfl rfl 0 (Nat.le_of_ble_eq_true rfl) (hts _ q865) (fun _ h9 => h9) rfl rfl (tyX13_ok 0 (Nat.le_of_ble_eq_true rfl)) rfl rfl (Nat.le_of_ble_eq_true rfl) dX13_init_8 (fun H locs (hG : gW X F V ((q9, aI (gT X 2) n (fun _ => 0)) :: (ln, oB 11 [.ref q9]) :: (ar, aI (gT X 2) m9 f) :: Z) s H locs) => ?_)
  refine lv_aload_n hx hb dX13_init_11 rfl (lv_at hl 1 rfl) ?_
  refine lv_iconst (v := zI 0) hx hb dX13_init_12 (by decide +kernel) ?_
  refine lv_aload_n hx hb dX13_init_13 rfl (lv_at hl 0 rfl) ?_
  refine g_get (ci := 11) hx hb hts in_X13 hown hG (hG.at 1 rfl) rfl 0 (Nat.le_of_ble_eq_true rfl) (hts _ q865) (fun _ h9 => h9) rfl dX13_init_14 ?_
  refine lv_iconst (v := zI 0) hx hb dX13_init_17 (by decide +kernel) ?_
  refine lv_iload_n hx hb dX13_init_18 rfl (lv_at hl 2 rfl) ?_
  refine g_copyI hx hb (hml.trans hl.1.symm) hown (hts _ q864) (hts _ q676) (hts _ q675) (hts _ q117) hG 2 rfl rfl (hG.at 2 rfl) 0 rfl 0 0 n ⟨rfl, rfl, rfl, by omega, by omega, by omega, by omega⟩ (fun i9 hi9 => by rw [Nat.zero_add]; exact hc i9 hi9) ⟨Nat.le_of_ble_eq_true rfl, Nat.le_of_ble_eq_true rfl⟩ dX13_init_19 (fun H locs (hG : gW X F V ((q9, aI (gT X 2) n (va_cpy f (fun _ => 0) 0 0 n)) :: (ln, oB 11 [.ref q9]) :: (ar, aI (gT X 2) m9 f) :: Z) s H locs) => ?_)
  have hG : gW X F V ((ar, aI (gT X 2) m9 f) :: (q9, aI (gT X 2) n (va_cpy f (fun _ => 0) 0 0 n)) :: (ln, oB 11 [.ref q9]) :: Z) s _ _ := hG.pull 2 rfl rfl
  have hG : gW X F V ((q9, aI (gT X 2) n (va_cpy f (fun _ => 0) 0 0 n)) :: (ar, aI (gT X 2) m9 f) :: (ln, oB 11 [.ref q9]) :: Z) s _ _ := hG.pull 1 rfl rfl
  have hG : gW X F V ((ln, oB 11 [.ref q9]) :: (q9, aI (gT X 2) n (va_cpy f (fun _ => 0) 0 0 n)) :: (ar, aI (gT X 2) m9 f) :: Z) s _ _ := hG.pull 2 rfl rfl
  exact g_vret hx hb hr hlocks hG (⟨rfl, rfl, q9, rfl⟩) ⟨by show _ ≤ 1; omega, by show _ ≤ 8; omega⟩ dX13_init_22

set_option maxHeartbeats 4000000 in
theorem metX2_ofLetter {l : Launch} {X : gX} {F : gF} {V : gV} {Z : va_W} {ch : Nat} (hc : 97 ≤ ch ∧ ch ≤ 122) : Met l yX2_ofLetter (ws_ yX2_ofLetter cX2_ofLetter 2 (some (FieldType.object "LineRemarks$Line"))) ({ frames := 2, cells := 3, slots := 10, locals := 60 }) (gP X F V (Z) [.int (zI (ch : Int))]) (gQr X (fun u G U ws => gLe F G ∧ V = U ∧ isLine X G u [ch] ∧ Z = ws)) 3 10 (gA X) := by
  refine Met.g (by decide) (Nat.le_of_ble_eq_true rfl) ?_
  intro p e s m below meth c ls hx hb hr hts hown hlocks hml hin hG hl
  have hl : lv_has ls 2 [(0, .int (zI (ch : Int)))] := hl
  refine lv_iconst (v := zI 1) hx hb dX2_ofLetter_0 (by decide +kernel) ?_
  refine g_newa (atype := .char) hx hb (hts _ q781) 2 rfl rfl (fun h => h) hG (N := 1) (a0 := (1, .inl (fun _ => 0))) (fun _ => rfl) ⟨rfl, by decide⟩ (by decide) ⟨Nat.le_of_ble_eq_true rfl, Nat.le_of_ble_eq_true rfl⟩ dX2_ofLetter_1 (fun ar H (hG : gW X F V ((ar, aI (gT X 2) 1 (fun _ => 0)) :: Z) s H _) => ?_)
  refine lv_astore_n (lv' := [(1, .ref ar), (0, .int (zI (ch : Int)))]) hx hb dX2_ofLetter_3 rfl hl (by decide) rfl (fun ls hl => ?_)
  refine lv_aload_n hx hb dX2_ofLetter_4 rfl (lv_at hl 0 rfl) ?_
  refine lv_iconst (v := zI 0) hx hb dX2_ofLetter_5 (by decide +kernel) ?_
  refine lv_iload_n hx hb dX2_ofLetter_6 rfl (lv_at hl 1 rfl) ?_
  refine lv_i2c (v := zI (ch : Int)) hx hb dX2_ofLetter_7 (zI_c16 (by omega)) ?_
  refine g_cast hx hb hG 0 rfl 0 ⟨rfl, by decide, by decide⟩ (y := (zI (ch : Int))) (zI_n16 (by omega)) dX2_ofLetter_8 (fun H locs (hG : gW X F V ((ar, aI (gT X 2) 1 (upd (fun _ => 0) 0 (zI (ch : Int)))) :: Z) s H locs) => ?_)
  refine g_new (ci := 11) hx hb hts in_X13 tyX13 tyX13_ok hown (hts _ q3159) (hts _ q859) (hts _ q122) hG rfl (fs := [.null]) rfl ⟨Nat.le_of_ble_eq_true rfl, Nat.le_of_ble_eq_true rfl⟩ dX2_ofLetter_9 (fun ln H (hG : gW X F V ((ln, oB 11 [.null]) :: (ar, aI (gT X 2) 1 (upd (fun _ => 0) 0 (zI (ch : Int)))) :: Z) s H _) => ?_)
  refine lv_dup hx hb dX2_ofLetter_12 rfl ?_
  refine lv_aload_n hx hb dX2_ofLetter_13 rfl (lv_at hl 0 rfl) ?_
  refine lv_iconst (v := zI 1) hx hb dX2_ofLetter_14 (by decide +kernel) ?_
  refine g_cv (va_runI (As := [.ref ar, .int (zI 1)]) (rest := [.ref ln]) ⟨hx, hb, hml, hown, hts⟩ (metX13_init (n := 1) ⟨by decide, by decide⟩ (fun i hi => by rw [show i = 0 by omega]; exact zI_f16 (by omega))) (cwI 2 hts (lw_meth q862) rfl rfl rfl (hts _ q122) (hts _ q3160) (hts _ q861) rfl (by decide +kernel) ⟨Nat.le_of_ble_eq_true rfl, Nat.le_of_ble_eq_true rfl⟩) (g_preS hG) rfl rfl hl.1 rfl (lv_room (Nat.le_of_ble_eq_true rfl)) dX2_ofLetter_15 ⟨Nat.le_of_ble_eq_true rfl, Nat.le_of_ble_eq_true rfl⟩) hG (fun F_2 V_3 ws_ H locs hp hG => ?_)
  obtain ⟨rfl, rfl, q9, rfl⟩ := hp
  have hG : gW X F V ((ln, oB 11 [.ref q9]) :: (q9, aI (gT X 2) 1 (va_cpy (upd (fun _ => 0) 0 (zI (ch : Int))) (fun _ => 0) 0 0 1)) :: (ar, aI (gT X 2) 1 (upd (fun _ => 0) 0 (zI (ch : Int)))) :: Z) s H locs := hG
  obtain ⟨G1, hle_G1, hF1, hG⟩ := hG.freeze
  have hG : gW X G1 V ((q9, aI (gT X 2) 1 (va_cpy (upd (fun _ => 0) 0 (zI (ch : Int))) (fun _ => 0) 0 0 1)) :: (ar, aI (gT X 2) 1 (upd (fun _ => 0) 0 (zI (ch : Int)))) :: Z) s _ _ := hG
  obtain ⟨G2, hle_G2, hF2, hG⟩ := hG.freeze
  have hG : gW X G2 V ((ar, aI (gT X 2) 1 (upd (fun _ => 0) 0 (zI (ch : Int)))) :: Z) s _ _ := hG
  have hG : gW X G2 V (Z) s _ _ := hG.drop 0 rfl rfl
  exact g_rret hx hb hr (Or.inl ⟨_, rfl⟩) hlocks hG (⟨hle_G1.tr hle_G2, rfl, isLine_mk (hle_G2.1 _ _ hF1) hF2 rfl (fun j hj => by rw [show j = 0 by omega]; rfl) (lnOK_1 hc), rfl⟩) ⟨Nat.le_of_ble_eq_true rfl, Nat.le_of_ble_eq_true rfl⟩ dX2_ofLetter_18

set_option maxHeartbeats 4000000 in
theorem metX0_rowOf_l {l : Launch} {X : gX} {F : gF} {V : gV} {Z : va_W} {ll B : Nat} {mo : Int} {N : List Nd} {t : Tx} (hN : llN V B N) (hT : llT X F N t) (h24 : t.length ≤ 24) : Met l yX0_rowOf (ws_ yX0_rowOf cX0_rowOf 4 (some (FieldType.array (FieldType.object "LineRemarks$Line")))) ({ frames := 5, cells := 2, slots := 29, locals := 106 }) (gP X F V ((ll, oB 27 [.int (zI mo), .int (zI (N.length : Int)), va_rf (hdO N), va_rf (tlO N)]) :: Z) [.ref ll]) (gQr X (fun u G U ws => gLe F G ∧ V = U ∧ isText X G u t ∧ ((ll, oB 27 [.int (zI mo), .int (zI (N.length : Int)), va_rf (hdO N), va_rf (tlO N)]) :: Z) = ws)) 2 29 (gA X) := by
  refine Met.g (by decide) (Nat.le_of_ble_eq_true rfl) ?_
  intro p e s m below meth c ls hx hb hr hts hown hlocks hml hin hG hl
  have hl : lv_has ls 4 [(0, .ref ll)] := hl
  have hNt := hT.1
  refine lv_aload_n hx hb dX0_rowOf_0 rfl (lv_at hl 0 rfl) ?_
  refine g_Fi (va_runF (C := "java/util/LinkedList") (g_cls hG (ci := 27) rfl) (As := []) (rest := []) ⟨hx, hb, hml, hown, hts⟩ (metJ41_size) (va_cwF 0 hts (lw_F q1292 q1285 q932 q156 q933) rfl rfl rfl (gW_xt hG).1.1 (by decide +kernel) ⟨Nat.le_of_ble_eq_true rfl, Nat.le_of_ble_eq_true rfl⟩) (g_preV hG (g_recv hG (hG.at 0 rfl) (ci := 27) rfl)) rfl rfl hl.1 rfl (lv_room (Nat.le_of_ble_eq_true rfl)) dX0_rowOf_1 ⟨Nat.le_of_ble_eq_true rfl, Nat.le_of_ble_eq_true rfl⟩) hG (fun r_1 F_2 V_3 ws_ H locs hp hG => ?_)
  obtain ⟨rfl, rfl, rfl, rfl⟩ := hp
  have hG : gW X F V ((ll, oB 27 [.int (zI mo), .int (zI (N.length : Int)), va_rf (hdO N), va_rf (tlO N)]) :: Z) s H locs := hG
  refine g_newq hx hb hown (hts _ q1293) (hG.1.2.1.2.1 "LineRemarks$Line" (by decide)) 6 rfl hG (N := N.length) ⟨rfl, by omega⟩ ⟨by show _ ≤ 2; omega, by show _ ≤ 29; omega⟩ dX0_rowOf_6 (fun row H (hG : gW X F V ((row, aR (gT X 6) N.length (fun _ => none)) :: (ll, oB 27 [.int (zI mo), .int (zI (N.length : Int)), va_rf (hdO N), va_rf (tlO N)]) :: Z) s H _) => ?_)
  refine lv_astore_n (lv' := [(1, .ref row), (0, .ref ll)]) hx hb dX0_rowOf_9 rfl hl (by decide) rfl (fun ls hl => ?_)
  refine lv_iconst (v := zI 0) hx hb dX0_rowOf_10 (by decide +kernel) ?_
  refine lv_istore_n (lv' := [(2, .int (zI 0)), (1, .ref row), (0, .ref ll)]) hx hb dX0_rowOf_11 rfl hl (by decide) rfl (fun ls hl => ?_)
  refine lv_aload_n hx hb dX0_rowOf_12 rfl (lv_at hl 2 rfl) ?_
  have hG : gW X F V ((ll, oB 27 [.int (zI mo), .int (zI (N.length : Int)), va_rf (hdO N), va_rf (tlO N)]) :: (row, aR (gT X 6) N.length (fun _ => none)) :: Z) s _ _ := hG.pull 1 rfl rfl
  refine g_Fr (va_runF (C := "java/util/LinkedList") (g_cls hG (ci := 27) rfl) (As := []) (rest := []) ⟨hx, hb, hml, hown, hts⟩ (metJ40_iterator hN (by omega)) (va_cwF 0 hts (lw_F q1296 q1381 q1383 q155 q1385) rfl rfl rfl (gW_xt hG).1.2 (by decide +kernel) ⟨Nat.le_of_ble_eq_true rfl, Nat.le_of_ble_eq_true rfl⟩) (g_preV hG (g_recv hG (hG.at 0 rfl) (ci := 27) rfl)) rfl rfl hl.1 rfl (lv_room (Nat.le_of_ble_eq_true rfl)) dX0_rowOf_13 ⟨by show _ ≤ 2; omega, by show _ ≤ 29; omega⟩) hG (fun it F_4 V_5 ws_ H locs hp hG => ?_)
  obtain ⟨rfl, rfl, rfl⟩ := hp
  have hG : gW X F V ((it, oB 29 [.null, va_rf (hdO N), .int (zI 0), .int (zI mo), .ref ll]) :: (ll, oB 27 [.int (zI mo), .int (zI (N.length : Int)), va_rf (hdO N), va_rf (tlO N)]) :: (row, aR (gT X 6) N.length (fun _ => none)) :: Z) s H locs := hG
  refine lv_astore_n (lv' := [(3, .ref it), (2, .int (zI 0)), (1, .ref row), (0, .ref ll)]) hx hb dX0_rowOf_18 rfl hl (by decide) rfl (fun ls hl => ?_)
  refine g_loop (fun mz H locs ls => ∃ (k : Nat) (f : Nat → Option Nat) (v1 : Value), (k ≤ N.length ∧ mz = N.length - k ∧ ∀ i, i < k → f i = some (nT N i)) ∧ gW X F V ((it, oB 29 [v1, va_rf (ndO N k), .int (zI ((k : Nat) : Int)), .int (zI mo), .ref ll]) :: (ll, oB 27 [.int (zI mo), .int (zI (N.length : Int)), va_rf (hdO N), va_rf (tlO N)]) :: (row, aR (gT X 6) N.length f) :: Z) s H locs ∧ lv_has ls 4 [(0, .ref ll), (1, .ref row), (2, .int (zI (k : Int))), (3, .ref it)]) (N.length - 0) ⟨0, _, _, ⟨Nat.zero_le _, rfl, fun i hi => absurd hi (Nat.not_lt_zero i)⟩, hG, (lv_sub hl [3, 2, 1, 0] rfl)⟩ (fun mz ihA H locs ls hI => ?_)
  obtain ⟨k, f, v1, ⟨hk, hmz, hf⟩, hG, hl⟩ := hI
  refine lv_aload_n hx hb dX0_rowOf_19 rfl (lv_at hl 3 rfl) ?_
  rcases Nat.lt_or_ge k N.length with hk1 | hk1
  · refine g_Fi (va_runF (C := "java/util/LinkedList$ListItr") (g_cls hG (ci := 29) rfl) (As := []) (rest := []) ⟨hx, hb, hml, hown, hts⟩ (metJ34_hasNext (N := N) (j := k) (by omega) (by omega)) (va_cwF 0 hts (lw_F q1472 q1507 q1509 q137 q1511) rfl rfl rfl (hG.1.2.1.2.2.1 _ qf15) (by decide +kernel) ⟨Nat.le_of_ble_eq_true rfl, Nat.le_of_ble_eq_true rfl⟩) (g_preV hG (g_recv hG (hG.at 0 rfl) (ci := 29) rfl)) rfl rfl hl.1 rfl (lv_room (Nat.le_of_ble_eq_true rfl)) dX0_rowOf_20 ⟨by show _ ≤ 2; omega, by show _ ≤ 29; omega⟩) hG (fun r_6 F_7 V_8 ws_ H locs hp hG => ?_)
    obtain ⟨rfl, rfl, rfl, rfl⟩ := hp
    have hG : gW X F V ((it, oB 29 [v1, va_rf (ndO N k), .int (zI ((k : Nat) : Int)), .int (zI mo), .ref ll]) :: (ll, oB 27 [.int (zI mo), .int (zI (N.length : Int)), va_rf (hdO N), va_rf (tlO N)]) :: (row, aR (gT X 6) N.length f) :: Z) s H locs := hG
    refine g_topz (y := 1) (by rw [decide_eq_true hk1]; rfl) ?_
    refine g_eq (tgt := 46) hx hb dX0_rowOf_25 (by decide) (by decide) (fun h2 => ?_) (fun h2 => ?_)
    · exfalso; omega
    · refine lv_aload_n hx hb dX0_rowOf_28 rfl (lv_at hl 1 rfl) ?_
      refine lv_iload_n hx hb dX0_rowOf_29 rfl (lv_at hl 2 rfl) ?_
      refine lv_aload_n hx hb dX0_rowOf_30 rfl (lv_at hl 3 rfl) ?_
      refine g_Fr (va_runF (C := "java/util/LinkedList$ListItr") (g_cls hG (ci := 29) rfl) (As := []) (rest := [.int (zI (k : Int)), .ref row]) ⟨hx, hb, hml, hown, hts⟩ (metJ34_next (j := k) hN (by omega) hk1) (va_cwF 0 hts (lw_F q1513 q1700 q1702 q137 q1704) rfl rfl rfl (hG.1.2.1.2.2.1 _ qf16) (by decide +kernel) ⟨Nat.le_of_ble_eq_true rfl, Nat.le_of_ble_eq_true rfl⟩) (g_preV hG (g_recv hG (hG.at 0 rfl) (ci := 29) rfl)) rfl rfl hl.1 rfl (lv_room (Nat.le_of_ble_eq_true rfl)) dX0_rowOf_31 ⟨by show _ ≤ 2; omega, by show _ ≤ 29; omega⟩) hG (fun r_9 F_10 V_11 ws_ H locs hp hG => ?_)
      obtain ⟨rfl, rfl, rfl, rfl⟩ := hp
      have hG : gW X F V ((it, oB 29 [.ref (nA N k), va_rf (ndO N (k + 1)), .int (zI ((k + 1 : Nat) : Int)), .int (zI mo), .ref ll]) :: (ll, oB 27 [.int (zI mo), .int (zI (N.length : Int)), va_rf (hdO N), va_rf (tlO N)]) :: (row, aR (gT X 6) N.length f) :: Z) s H locs := hG
      refine va_castE hx hb hown (hts _ q1293) ((hT.2 k (by omega)).recv hG) dX0_rowOf_36 ?_
      refine g_aast hx hb hG 2 rfl 6 rfl ((hT.2 k (by omega)).recv hG) (fun _ _ h1 h2 => by cases h1.symm.trans h2; exact va_asg _ _) cls_ex k ⟨rfl, by omega, by omega⟩ dX0_rowOf_39 (fun H locs (hG : gW X F V ((it, oB 29 [.ref (nA N k), va_rf (ndO N (k + 1)), .int (zI ((k + 1 : Nat) : Int)), .int (zI mo), .ref ll]) :: (ll, oB 27 [.int (zI mo), .int (zI (N.length : Int)), va_rf (hdO N), va_rf (tlO N)]) :: (row, aR (gT X 6) N.length (va_up f k (some (nT N k)))) :: Z) s H locs) => ?_)
      refine lv_iinc (v := zI ((k : Int) + 1 : Int)) (lv' := [(2, .int (zI ((k : Int) + 1 : Int))), (0, .ref ll), (1, .ref row), (3, .ref it)]) hx hb dX0_rowOf_40 hl (k := 2) rfl ((zI_add _ _).trans (congrArg zI (by omega))) (by decide) rfl (fun ls hl => ?_)
      refine lv_goto (tgt := 19) hx hb dX0_rowOf_43 (by decide) ?_
      have hl : lv_has ls 4 [(2, .int (zI ((k + 1 : Nat) : Int))), (0, .ref ll), (1, .ref row), (3, .ref it)] := by exact hl
      exact ihA (N.length - (k + 1)) (by omega) H locs ls ⟨(k + 1), _, _, ⟨by omega, rfl, fun i hi => by by_cases h9 : i = k; (rw [h9, va_up_self]); (rw [va_up_ne _ _ h9]; exact hf i (by omega))⟩, hG, (lv_sub hl [1, 2, 0, 3] rfl)⟩
  · refine g_Fi (va_runF (C := "java/util/LinkedList$ListItr") (g_cls hG (ci := 29) rfl) (As := []) (rest := []) ⟨hx, hb, hml, hown, hts⟩ (metJ34_hasNext (N := N) (j := k) (by omega) (by omega)) (va_cwF 0 hts (lw_F q1472 q1507 q1509 q137 q1511) rfl rfl rfl (hG.1.2.1.2.2.1 _ qf15) (by decide +kernel) ⟨Nat.le_of_ble_eq_true rfl, Nat.le_of_ble_eq_true rfl⟩) (g_preV hG (g_recv hG (hG.at 0 rfl) (ci := 29) rfl)) rfl rfl hl.1 rfl (lv_room (Nat.le_of_ble_eq_true rfl)) dX0_rowOf_20 ⟨by show _ ≤ 2; omega, by show _ ≤ 29; omega⟩) hG (fun r_12 F_13 V_14 ws_ H locs hp hG => ?_)
    obtain ⟨rfl, rfl, rfl, rfl⟩ := hp
    have hG : gW X F V ((it, oB 29 [v1, va_rf (ndO N k), .int (zI ((k : Nat) : Int)), .int (zI mo), .ref ll]) :: (ll, oB 27 [.int (zI mo), .int (zI (N.length : Int)), va_rf (hdO N), va_rf (tlO N)]) :: (row, aR (gT X 6) N.length f) :: Z) s H locs := hG
    refine g_topz (y := 0) (by rw [decide_eq_false (by omega)]; rfl) ?_
    refine g_eq (tgt := 46) hx hb dX0_rowOf_25 (by decide) (by decide) (fun h2 => ?_) (fun h2 => ?_)
    · refine lv_aload_n hx hb dX0_rowOf_46 rfl (lv_at hl 1 rfl) ?_
      have hG : gW X F V ((row, aR (gT X 6) N.length f) :: (it, oB 29 [v1, va_rf (ndO N k), .int (zI ((k : Nat) : Int)), .int (zI mo), .ref ll]) :: (ll, oB 27 [.int (zI mo), .int (zI (N.length : Int)), va_rf (hdO N), va_rf (tlO N)]) :: Z) s _ _ := hG.pull 2 rfl rfl
      obtain ⟨G1, hle_G1, hrow, hG⟩ := hG.freeze
      have hG : gW X G1 V ((it, oB 29 [v1, va_rf (ndO N k), .int (zI ((k : Nat) : Int)), .int (zI mo), .ref ll]) :: (ll, oB 27 [.int (zI mo), .int (zI (N.length : Int)), va_rf (hdO N), va_rf (tlO N)]) :: Z) s _ _ := hG
      have hG : gW X G1 V ((ll, oB 27 [.int (zI mo), .int (zI (N.length : Int)), va_rf (hdO N), va_rf (tlO N)]) :: Z) s _ _ := hG.drop 0 rfl rfl
      exact g_rret hx hb hr (Or.inr ⟨_, rfl⟩) hlocks hG (⟨hle_G1, rfl, hT.text hle_G1 h24 hrow (fun i hi => hf i (by omega)), rfl⟩) ⟨by show _ ≤ 2; omega, by show _ ≤ 29; omega⟩ dX0_rowOf_47
    · exfalso; omega

set_option maxHeartbeats 4000000 in
theorem metX2_drift {l : Launch} {X : gX} {F : gF} {V : gV} {Z : va_W} {wa rv rk st : Nat} {ra la ma : Nat → Nat} {w : aW} (hW : xWd X F V 4 w wa rv rk st ra la ma) (hK : wOK w) (hn1 : 1 ≤ wN w ∧ wN w < 16) : Met l yX2_drift (ws_ yX2_drift cX2_drift 7 none) ({ frames := 6, cells := 40, slots := 170, locals := 129 }) (gP X F V (Z) [.ref wa]) (gQv X (fun G U ws => gLe F G ∧ ∃ ra9 la9 : Nat → Nat, xWd X G U 4 (wDrift w) wa rv rk st ra9 la9 ma ∧ vxD V U ∧ Z = ws)) 40 170 (gA X) := by
  refine Met.g (by decide) (Nat.le_of_ble_eq_true rfl) ?_
  intro p e s m below meth c ls hx hb hr hts hown hlocks hml hin hG hl
  have hl : lv_has ls 7 [(0, .ref wa)] := hl
  have hNN := hK.n
  have hKS : ∀ v, wOK (wSeedTo w v) := fun v => hK.seedTo v
  have hfo9 : ∀ v f, some (wN w - 1) = some f → f < wN (wSeedTo w v) := fun v f hf => by cases hf; show wN w - 1 < wN w; omega
  obtain ⟨t, ht⟩ : ∃ t, t = dfT w := ⟨_, rfl⟩
  have hWA := hW
  obtain ⟨hw0, ⟨fR, hw1, hwR⟩, ⟨fM, hw2, hwM⟩, ⟨fS, hw3, hwS⟩, hR, hMk⟩ := hW
  have hw1 : V 5 = some (rv, aR (gT X 7) 16 fR) := hw1
  have hw2 : V 6 = some (rk, aR (gT X 8) 16 fM) := hw2
  have hw3 : V 7 = some (st, aI (gT X 5) 16 fS) := hw3
  have hwE : V 4 = some (wa, xwE w rv rk st) := hw0
  have htx : isText X F (la (wN w - 1)) t := by rw [ht]; exact (hR (wN w - 1) (by omega)).2
  refine lv_aload_n hx hb dX2_drift_0 rfl (lv_at hl 0 rfl) ?_
  refine g_get (ci := 2) hx hb hts in_X2 hown hG (hG.vo hw0) rfl 6 (Nat.le_of_ble_eq_true rfl) (hts _ q348) (fun _ h9 => h9) rfl dX2_drift_1 ?_
  refine lv_aload_n hx hb dX2_drift_4 rfl (lv_at hl 0 rfl) ?_
  refine g_get (ci := 2) hx hb hts in_X2 hown hG (hG.vo hw0) rfl 0 (Nat.le_of_ble_eq_true rfl) (hts _ q333) (fun _ h9 => h9) rfl dX2_drift_5 ?_
  refine lv_iconst (v := zI 1) hx hb dX2_drift_8 (by decide +kernel) ?_
  refine g_isub hx hb dX2_drift_9 ?_
  refine g_aald hx hb hG 7 rfl rfl (hG.vo hw1) (wN w - 1) ⟨by omega, by omega, by decide⟩ (v := .ref (ra (wN w - 1))) (congrArg va_rf (hwR (wN w - 1) (by omega))) dX2_drift_10 ?_
  refine lv_astore_n (lv' := [(1, .ref (ra (wN w - 1))), (0, .ref wa)]) hx hb dX2_drift_11 rfl hl (by decide) rfl (fun ls hl => ?_)
  refine g_new (ci := 27) hx hb hts in_J41 tyJ41 tyJ41_ok hown (hts _ q3140) (hts _ q1197) (hts _ q156) hG rfl (fs := [.int (zI 0), .int (zI 0), .null, .null]) rfl ⟨Nat.le_of_ble_eq_true rfl, Nat.le_of_ble_eq_true rfl⟩ dX2_drift_12 (fun ll H (hG : gW X F V ((ll, oB 27 [.int (zI 0), .int (zI 0), .null, .null]) :: Z) s H _) => ?_)
  refine lv_dup hx hb dX2_drift_15 rfl ?_
  refine g_cv (va_runI (As := []) (rest := [.ref ll]) ⟨hx, hb, hml, hown, hts⟩ (metJ41_init) (cwI 0 hts (lw_meth q2502) rfl rfl rfl (hts _ q156) (hts _ q3141) (hts _ q2501) rfl (by decide +kernel) ⟨Nat.le_of_ble_eq_true rfl, Nat.le_of_ble_eq_true rfl⟩) (g_preS hG) rfl rfl hl.1 rfl (lv_room (Nat.le_of_ble_eq_true rfl)) dX2_drift_16 ⟨Nat.le_of_ble_eq_true rfl, Nat.le_of_ble_eq_true rfl⟩) hG (fun F_2 V_3 ws_ H locs hp hG => ?_)
  obtain ⟨rfl, rfl, rfl⟩ := hp
  have hG : gW X F V ((ll, oB 27 [.int (zI 0), .int (zI (([]).length : Int)), va_rf (hdO ([])), va_rf (tlO ([]))]) :: Z) s H locs := hG
  obtain ⟨gt, hgt1, hgt2, hgt3⟩ := htx
  have hgtl := hgt2
  refine lv_astore_n (lv' := [(2, .ref ll), (1, .ref (ra (wN w - 1))), (0, .ref wa)]) hx hb dX2_drift_19 rfl hl (by decide) rfl (fun ls hl => ?_)
  refine lv_aload_n hx hb dX2_drift_20 rfl (lv_at hl 1 rfl) ?_
  obtain ⟨vc_4, hrvc_4, hgvc_4⟩ := hG.rv (hR (wN w - 1) (by omega)).1
  refine g_get (ci := 12) hx hb hts in_X14 hown hG hrvc_4 rfl 2 (Nat.le_of_ble_eq_true rfl) (hts _ q1727) (fun _ h9 => h9) rfl dX2_drift_21 ?_
  refine lv_astore_n (lv' := [(3, .ref (la (wN w - 1))), (2, .ref ll), (1, .ref (ra (wN w - 1))), (0, .ref wa)]) hx hb dX2_drift_24 rfl hl (by decide) rfl (fun ls hl => ?_)
  refine lv_aload_n hx hb dX2_drift_25 rfl (lv_at hl 0 rfl) ?_
  refine g_alen hx hb hG 6 rfl (hG.fz hgt1) dX2_drift_26 ?_
  refine lv_istore (lv' := [(4, .int (zI (t.length : Nat))), (3, .ref (la (wN w - 1))), (2, .ref ll), (1, .ref (ra (wN w - 1))), (0, .ref wa)]) hx hb dX2_drift_27 hl (by decide) rfl (fun ls hl => ?_)
  refine lv_iconst (v := zI 0) hx hb dX2_drift_29 (by decide +kernel) ?_
  refine lv_istore (lv' := [(5, .int (zI 0)), (4, .int (zI (t.length : Nat))), (3, .ref (la (wN w - 1))), (2, .ref ll), (1, .ref (ra (wN w - 1))), (0, .ref wa)]) hx hb dX2_drift_30 hl (by decide) rfl (fun ls hl => ?_)
  have hW0 : xWd X F V 4 w wa rv rk st ra la ma := hWA
  have hl : lv_has ls 7 [(5, .int (zI ((0 : Nat) : Int))), (4, .int (zI (t.length : Nat))), (3, .ref (la (wN w - 1))), (2, .ref ll), (1, .ref (ra (wN w - 1))), (0, .ref wa)] := by exact hl
  refine g_loopA (fun mz H locs ls => ∃ (j B : Nat) (N : List Nd) (mo : Int) (U : gV), (j ≤ t.length ∧ mz = t.length - j ∧ llN U B N ∧ N.length = j ∧ (∀ i, i < j → isLine X F (nT N i) (t.getD i [])) ∧ vx100 V U) ∧ gW X F U ((ll, oB 27 [.int (zI mo), .int (zI (N.length : Int)), va_rf (hdO N), va_rf (tlO N)]) :: Z) s H locs ∧ lv_has ls 7 [(0, .ref wa), (1, .ref (ra (wN w - 1))), (2, .ref ll), (3, .ref (la (wN w - 1))), (4, .int (zI (t.length : Int))), (5, .int (zI (j : Int)))]) (t.length - 0) 1 3 25 80 ⟨0, 100, ([]), 0, V, ⟨Nat.zero_le _, rfl, llN.nil, rfl, fun i hi => absurd hi (Nat.not_lt_zero i), vx100.rf⟩, hG, (lv_sub hl [5, 4, 3, 2, 1, 0] rfl)⟩ ⟨by omega, by omega⟩ (fun mz ihA H locs ls cells slots hroom hI => ?_)
  obtain ⟨j, B, N, mo, U, ⟨hj, hmz, hN, hNj, hlj, hvU⟩, hG, hl⟩ := hI
  refine lv_iload hx hb dX2_drift_32 (lv_at hl 5 rfl) ?_
  refine lv_iload hx hb dX2_drift_34 (lv_at hl 4 rfl) ?_
  refine g_cge (tgt := 57) hx hb dX2_drift_36 (by decide) (by omega) (fun h1 => ?_) (fun h1 => ?_)
  · have hjt : j = t.length := by omega
    have hT : llT X F N t := ⟨by omega, fun i hi => hlj i (by omega)⟩
    have hNt := hT.1
    have hD := hvU.d
    have hW : xWd X F U 4 w wa rv rk st ra la ma := hW0.cg (fun r9 _ h9 => hvU r9 (by omega))
    obtain ⟨vv1, hv1⟩ : ∃ v, v = sDraw (wSeed w) := ⟨_, rfl⟩
    obtain ⟨a1, ha1⟩ : ∃ a, a = hi16 vv1 % 4 := ⟨_, rfl⟩
    have hA : dfA w = a1 := by unfold dfA dfV1; rw [ha1, hv1]
    have ha4 : a1 < 4 := by omega
    have hw0 := hW.1
    have hw0 : U 4 = some (wa, oB 2 [.int (zI (wN w : Int)), .int (zI (wM w : Int)), .int (zI (wRun w : Int)), .int (zI (wNeed w : Int)), .int (zI (wMar w : Int)), .int (wSeed w), .ref rv, .ref rk, .ref st]) := hw0
    refine lv_aload_n hx hb dX2_drift_57 rfl (lv_at hl 0 rfl) ?_
    refine lv_iconst (v := zI 4) hx hb dX2_drift_58 (by decide +kernel) ?_
    refine g_topz (y := ((4 : Nat) : Int)) rfl ?_
    refine g_ci (va_runV (As := [.int (zI ((4 : Nat) : Int))]) (rest := []) ⟨hx, hb, hml, hown, hts⟩ (metX2_draw (n := 4) (w := w) hW hK (by decide)) (cwV 1 hts (lw_V q3143 q3144 q3145 q100 q3146) rfl rfl rfl (by decide +kernel) ⟨Nat.le_of_ble_eq_true rfl, Nat.le_of_ble_eq_true rfl⟩) (g_preV hG (g_recv hG (hG.vo hw0) (ci := 2) rfl)) rfl rfl hl.1 rfl (lv_room (Nat.le_of_ble_eq_true rfl)) dX2_drift_59 ⟨by show _ ≤ 40; omega, by show _ ≤ 170; omega⟩) hG (fun r_5 F_6 V_7 ws_ H locs hp hG => ?_)
    obtain ⟨hu, rfl, hWx, hBx, rfl⟩ := hp
    have hW : xWd X F V_7 4 (wSeedTo w vv1) wa rv rk st ra la ma := by rw [hv1]; exact hWx
    have hu : r_5 = zI ((a1 : Nat) : Int) := by rw [ha1, hv1]; exact hu
    subst hu
    have hN := hN.cg (fun r9 h9 => hBx r9 (Or.inr (by omega)))
    have hD := hD.tr hBx.d
    have hG : gW X F V_7 ((ll, oB 27 [.int (zI mo), .int (zI (N.length : Int)), va_rf (hdO N), va_rf (tlO N)]) :: Z) s H locs := hG
    refine lv_istore_n (lv' := [(3, .int (zI ((a1 : Nat) : Int))), (0, .ref wa), (1, .ref (ra (wN w - 1))), (2, .ref ll), (4, .int (zI (t.length : Int))), (5, .int (zI (j : Int)))]) hx hb dX2_drift_62 rfl hl (by decide) rfl (fun ls hl => ?_)
    refine lv_aload_n hx hb dX2_drift_63 rfl (lv_at hl 3 rfl) ?_
    rcases Nat.eq_zero_or_pos t.length with h0 | h0
    · refine g_ci (va_runU (C := "java/util/LinkedList") (As := []) (rest := []) ⟨hx, hb, hml, hown, hts⟩ (metJ5_isEmpty (N := N) (by omega)) (va_cwU 0 hts (lw_U q3148 q3149 q3151 q3152 q95 q3153) rfl rfl rfl rfl (by decide +kernel) ⟨Nat.le_of_ble_eq_true rfl, Nat.le_of_ble_eq_true rfl⟩) (g_preV hG (g_recv hG (hG.at 0 rfl) (ci := 27) rfl)) rfl rfl hl.1 rfl (lv_room (Nat.le_of_ble_eq_true rfl)) dX2_drift_64 ⟨by show _ ≤ 40; omega, by show _ ≤ 170; omega⟩) hG (fun r_8 F_9 V_10 ws_ H locs hp hG => ?_)
      obtain ⟨rfl, rfl, rfl, rfl⟩ := hp
      have hG : gW X F V_7 ((ll, oB 27 [.int (zI mo), .int (zI (N.length : Int)), va_rf (hdO N), va_rf (tlO N)]) :: Z) s H locs := hG
      refine g_topz (y := 1) (by rw [decide_eq_true (by omega)]; rfl) ?_
      have hV2 : dfV2 w = vv1 := by unfold dfV2 dfV1; rw [← ht, if_pos h0, hv1]
      have hkR : dfK w = 0 := by unfold dfK; rw [← ht, if_pos h0]
      refine g_eq (tgt := 74) hx hb dX2_drift_67 (by decide) (by decide) (fun h1 => ?_) (fun h1 => ?_)
      · exfalso; omega
      · refine lv_iconst (v := zI 0) hx hb dX2_drift_70 (by decide +kernel) ?_
        refine lv_goto (tgt := 82) hx hb dX2_drift_71 (by decide) ?_
        refine lv_istore (lv' := [(4, .int (zI 0)), (3, .int (zI ((a1 : Nat) : Int))), (0, .ref wa), (1, .ref (ra (wN w - 1))), (2, .ref ll), (5, .int (zI (j : Int)))]) hx hb dX2_drift_82 hl (by decide) rfl (fun ls hl => ?_)
        have hl : lv_has ls 7 [(4, .int (zI ((0 : Nat) : Int))), (3, .int (zI ((a1 : Nat) : Int))), (0, .ref wa), (1, .ref (ra (wN w - 1))), (2, .ref ll), (5, .int (zI (j : Int)))] := by exact hl
        rcases (show a1 = 0 ∨ a1 = 1 ∨ a1 = 2 ∨ a1 = 3 by omega) with hq | hq | hq | hq
        · refine lv_iload_n hx hb dX2_drift_84 rfl (lv_at hl 1 rfl) ?_
          refine g_ne (tgt := 118) hx hb dX2_drift_85 (by decide) (by omega) (fun h2 => ?_) (fun h2 => ?_)
          · exfalso; omega
          · refine lv_aload_n hx hb dX2_drift_88 rfl (lv_at hl 4 rfl) ?_
            refine g_ci (va_runV (As := []) (rest := []) ⟨hx, hb, hml, hown, hts⟩ (metJ41_size) (cwV 0 hts (lw_V q3155 q932 q3765 q156 q933) rfl rfl rfl (by decide +kernel) ⟨Nat.le_of_ble_eq_true rfl, Nat.le_of_ble_eq_true rfl⟩) (g_preV hG (g_recv hG (hG.at 0 rfl) (ci := 27) rfl)) rfl rfl hl.1 rfl (lv_room (Nat.le_of_ble_eq_true rfl)) dX2_drift_89 ⟨by show _ ≤ 40; omega, by show _ ≤ 170; omega⟩) hG (fun r_11 F_12 V_13 ws_ H locs hp hG => ?_)
            obtain ⟨rfl, rfl, rfl, rfl⟩ := hp
            have hG : gW X F V_7 ((ll, oB 27 [.int (zI mo), .int (zI (N.length : Int)), va_rf (hdO N), va_rf (tlO N)]) :: Z) s H locs := hG
            refine lv_bipush (v := zI 24) hx hb dX2_drift_92 (by decide +kernel) ?_
            refine g_cge (tgt := 118) hx hb dX2_drift_94 (by decide) (by omega) (fun h3 => ?_) (fun h3 => ?_)
            · exfalso; omega
            · obtain ⟨vv3, hv3⟩ : ∃ v, v = sDraw vv1 := ⟨_, rfl⟩
              obtain ⟨c1, hc1⟩ : ∃ a, a = hi16 vv3 % 26 := ⟨_, rfl⟩
              have hc26 : c1 < 26 := by omega
              have hw0 := hW.1
              have hw0 : V_7 4 = some (wa, oB 2 [.int (zI (wN w : Int)), .int (zI (wM w : Int)), .int (zI (wRun w : Int)), .int (zI (wNeed w : Int)), .int (zI (wMar w : Int)), .int vv1, .ref rv, .ref rk, .ref st]) := hw0
              refine lv_aload_n hx hb dX2_drift_97 rfl (lv_at hl 4 rfl) ?_
              refine lv_iload hx hb dX2_drift_98 (lv_at hl 0 rfl) ?_
              refine lv_bipush (v := zI 97) hx hb dX2_drift_100 (by decide +kernel) ?_
              refine lv_aload_n hx hb dX2_drift_102 rfl (lv_at hl 2 rfl) ?_
              refine lv_bipush (v := zI 26) hx hb dX2_drift_103 (by decide +kernel) ?_
              refine g_topz (y := ((26 : Nat) : Int)) rfl ?_
              refine g_ci (va_runV (As := [.int (zI ((26 : Nat) : Int))]) (rest := [.int (zI 97), .int (zI ((0 : Nat) : Int)), .ref ll]) ⟨hx, hb, hml, hown, hts⟩ (metX2_draw (n := 26) (w := (wSeedTo w vv1)) hW (hKS vv1) (by decide)) (cwV 1 hts (lw_V q3143 q3144 q3145 q100 q3146) rfl rfl rfl (by decide +kernel) ⟨Nat.le_of_ble_eq_true rfl, Nat.le_of_ble_eq_true rfl⟩) (g_preV hG (g_recv hG (hG.vo hw0) (ci := 2) rfl)) rfl rfl hl.1 rfl (lv_room (Nat.le_of_ble_eq_true rfl)) dX2_drift_105 ⟨by show _ ≤ 40; omega, by show _ ≤ 170; omega⟩) hG (fun r_14 F_15 V_16 ws_ H locs hp hG => ?_)
              obtain ⟨hu, rfl, hWx, hBx, rfl⟩ := hp
              have hW : xWd X F V_16 4 (wSeedTo w vv3) wa rv rk st ra la ma := by rw [hv3]; exact hWx
              have hu : r_14 = zI ((c1 : Nat) : Int) := by rw [hc1, hv3]; exact hu
              subst hu
              have hN := hN.cg (fun r9 h9 => hBx r9 (Or.inr (by omega)))
              have hD := hD.tr hBx.d
              have hG : gW X F V_16 ((ll, oB 27 [.int (zI mo), .int (zI (N.length : Int)), va_rf (hdO N), va_rf (tlO N)]) :: Z) s H locs := hG
              refine g_iadd hx hb dX2_drift_108 ?_
              refine g_topz (y := ((97 + c1 : Nat) : Int)) (by omega) ?_
              refine g_cr (va_runS (As := [.int (zI ((97 + c1 : Nat) : Int))]) (rest := [.int (zI ((0 : Nat) : Int)), .ref ll]) ⟨hx, hb, hml, hown, hts⟩ (metX2_ofLetter (ch := 97 + c1) (by omega)) (va_cwS 1 hts (lw_S q3156 q3157 q100 q3158) rfl rfl rfl (by decide +kernel) ⟨Nat.le_of_ble_eq_true rfl, Nat.le_of_ble_eq_true rfl⟩) (g_preS hG) rfl rfl hl.1 rfl (lv_room (Nat.le_of_ble_eq_true rfl)) dX2_drift_109 ⟨by show _ ≤ 40; omega, by show _ ≤ 170; omega⟩) hG (fun ln G2 V_17 ws_ H locs hp hG => ?_)
              obtain ⟨hle_G2, rfl, hln9, rfl⟩ := hp
              have hG : gW X G2 V_16 ((ll, oB 27 [.int (zI mo), .int (zI (N.length : Int)), va_rf (hdO N), va_rf (tlO N)]) :: Z) s H locs := hG
              refine g_cv (va_runV (As := [.int (zI ((0 : Nat) : Int)), .ref ln]) (rest := []) ⟨hx, hb, hml, hown, hts⟩ (metJ41_add (i := 0) hN (by omega) (by omega)) (cwV 2 hts (lw_V q3161 q1192 q3775 q156 q1193) rfl rfl rfl (by decide +kernel) ⟨Nat.le_of_ble_eq_true rfl, Nat.le_of_ble_eq_true rfl⟩) (g_preV hG (g_recv hG (hG.at 0 rfl) (ci := 27) rfl)) rfl rfl hl.1 rfl (lv_room (Nat.le_of_ble_eq_true rfl)) dX2_drift_112 ⟨by show _ ≤ 40; omega, by show _ ≤ 170; omega⟩) hG (fun F_19 V_20 ws_ H locs hp hG => ?_)
              obtain ⟨rfl, a9, hN9, hv9, rfl⟩ := hp
              have hG : gW X G2 V_20 ((ll, oB 27 [.int (zI (mo + 1)), .int (zI ((insN N 0 (B, a9, ln)).length : Int)), va_rf (hdO (insN N 0 (B, a9, ln))), va_rf (tlO (insN N 0 (B, a9, ln)))]) :: Z) s H locs := hG
              have hN := hN9
              have hD := hD.tr hv9.d
              have hW : xWd X G2 V_20 4 (wSeedTo w vv3) wa rv rk st ra la ma := (hW.mono hle_G2).cg (fun r9 _ h9 => hv9 r9 (by omega))
              obtain ⟨tt, htt⟩ : ∃ x, x = insT t 0 [97 + c1] := ⟨_, rfl⟩
              have hT2 : llT X G2 (insN N 0 (B, a9, ln)) tt := by rw [htt]; exact (hT.mono hle_G2).ins (by omega) hln9
              refine lv_goto (tgt := 192) hx hb dX2_drift_115 (by decide) ?_
              have hdf : dfR w = (tt, vv3) := by unfold dfR; rw [hA, ← ht, hkR, hV2, if_pos (by omega), htt, hc1, hv3]
              have htt24 : (tt).length ≤ 24 := by have h9 := (dfR_ok (w := w) (hK.tx (by omega))).1; rw [hdf] at h9; exact h9
              refine lv_aload_n hx hb dX2_drift_192 rfl (lv_at hl 2 rfl) ?_
              refine lv_aload_n hx hb dX2_drift_193 rfl (lv_at hl 3 rfl) ?_
              refine lv_aload_n hx hb dX2_drift_194 rfl (lv_at hl 4 rfl) ?_
              refine g_cr (va_runS (As := [.ref ll]) (rest := [.ref (ra (wN w - 1)), .ref wa]) ⟨hx, hb, hml, hown, hts⟩ (metX0_rowOf_l hN hT2 htt24) (va_cwS 1 hts (lw_S q3172 q1289 q87 q1290) rfl rfl rfl (by decide +kernel) ⟨Nat.le_of_ble_eq_true rfl, Nat.le_of_ble_eq_true rfl⟩) (g_preS hG) rfl rfl hl.1 rfl (lv_room (Nat.le_of_ble_eq_true rfl)) dX2_drift_195 ⟨by show _ ≤ 40; omega, by show _ ≤ 170; omega⟩) hG (fun lt G3 V_21 ws_ H locs hp hG => ?_)
              obtain ⟨hle_G3, rfl, htx3, rfl⟩ := hp
              have hG : gW X G3 V_20 ((ll, oB 27 [.int (zI (mo + 1)), .int (zI ((insN N 0 (B, a9, ln)).length : Int)), va_rf (hdO (insN N 0 (B, a9, ln))), va_rf (tlO (insN N 0 (B, a9, ln)))]) :: Z) s H locs := hG
              have hw0 := hW.1
              have hw0 : V_20 4 = some (wa, oB 2 [.int (zI (wN w : Int)), .int (zI (wM w : Int)), .int (zI (wRun w : Int)), .int (zI (wNeed w : Int)), .int (zI (wMar w : Int)), .int vv3, .ref rv, .ref rk, .ref st]) := hw0
              refine g_ci (va_runV (As := [.ref (ra (wN w - 1)), .ref lt]) (rest := []) ⟨hx, hb, hml, hown, hts⟩ (metX2_add (w := wSeedTo w vv3) (fo := some (wN w - 1)) (t := tt) (hW.mono hle_G3) (hKS vv3) (by show wN w < 16; omega) (hfo9 vv3) htx3) (cwV 2 hts (lw_V q3173 q1711 q1712 q100 q1713) rfl rfl rfl (by decide +kernel) ⟨Nat.le_of_ble_eq_true rfl, Nat.le_of_ble_eq_true rfl⟩) (g_preV hG (g_recv hG (hG.vo hw0) (ci := 2) rfl)) rfl rfl hl.1 rfl (lv_room (Nat.le_of_ble_eq_true rfl)) dX2_drift_198 ⟨by show _ ≤ 40; omega, by show _ ≤ 170; omega⟩) hG (fun r_22 G4 V_23 ws_ H locs hp hG => ?_)
              obtain ⟨hle_G4, rfl, ra9, la9, hW9, hB9, rfl⟩ := hp
              have hG : gW X G4 V_23 ((ll, oB 27 [.int (zI (mo + 1)), .int (zI ((insN N 0 (B, a9, ln)).length : Int)), va_rf (hdO (insN N 0 (B, a9, ln))), va_rf (tlO (insN N 0 (B, a9, ln)))]) :: Z) s H locs := hG
              have hG : gW X G4 V_23 (Z) s _ _ := hG.drop 0 rfl rfl
              refine lv_pop hx hb dX2_drift_201 rfl ?_
              exact g_vret hx hb hr hlocks hG (⟨((hle_G2.tr hle_G3).tr hle_G4), ra9, la9, by unfold wDrift; rw [hdf]; exact hW9, hD.tr hB9.d, rfl⟩) ⟨by show _ ≤ 40; omega, by show _ ≤ 170; omega⟩ dX2_drift_202
        · refine lv_iload_n hx hb dX2_drift_84 rfl (lv_at hl 1 rfl) ?_
          refine g_ne (tgt := 118) hx hb dX2_drift_85 (by decide) (by omega) (fun h2 => ?_) (fun h2 => ?_)
          · refine lv_iload_n hx hb dX2_drift_118 rfl (lv_at hl 1 rfl) ?_
            refine lv_iconst (v := zI 1) hx hb dX2_drift_119 (by decide +kernel) ?_
            refine g_cne (tgt := 140) hx hb dX2_drift_120 (by decide) (by omega) (fun h3 => ?_) (fun h3 => ?_)
            · exfalso; omega
            · refine lv_aload_n hx hb dX2_drift_123 rfl (lv_at hl 4 rfl) ?_
              refine g_ci (va_runU (C := "java/util/LinkedList") (As := []) (rest := []) ⟨hx, hb, hml, hown, hts⟩ (metJ5_isEmpty (N := N) (by omega)) (va_cwU 0 hts (lw_U q3148 q3149 q3151 q3152 q95 q3153) rfl rfl rfl rfl (by decide +kernel) ⟨Nat.le_of_ble_eq_true rfl, Nat.le_of_ble_eq_true rfl⟩) (g_preV hG (g_recv hG (hG.at 0 rfl) (ci := 27) rfl)) rfl rfl hl.1 rfl (lv_room (Nat.le_of_ble_eq_true rfl)) dX2_drift_124 ⟨by show _ ≤ 40; omega, by show _ ≤ 170; omega⟩) hG (fun r_24 F_25 V_26 ws_ H locs hp hG => ?_)
              obtain ⟨rfl, rfl, rfl, rfl⟩ := hp
              have hG : gW X F V_7 ((ll, oB 27 [.int (zI mo), .int (zI (N.length : Int)), va_rf (hdO N), va_rf (tlO N)]) :: Z) s H locs := hG
              refine g_topz (y := 1) (by rw [decide_eq_true (by omega)]; rfl) ?_
              refine g_ne (tgt := 140) hx hb dX2_drift_127 (by decide) (by decide) (fun h9 => ?_) (fun h9 => ?_)
              · refine lv_iload_n hx hb dX2_drift_140 rfl (lv_at hl 1 rfl) ?_
                refine lv_iconst (v := zI 2) hx hb dX2_drift_141 (by decide +kernel) ?_
                refine g_cne (tgt := 168) hx hb dX2_drift_142 (by decide) (by omega) (fun h5 => ?_) (fun h5 => ?_)
                · refine lv_iload_n hx hb dX2_drift_168 rfl (lv_at hl 1 rfl) ?_
                  refine lv_iconst (v := zI 3) hx hb dX2_drift_169 (by decide +kernel) ?_
                  refine g_cne (tgt := 192) hx hb dX2_drift_170 (by decide) (by omega) (fun h6 => ?_) (fun h6 => ?_)
                  · have hdf : dfR w = (t, vv1) := by unfold dfR; rw [hA, ← ht, hkR, hV2, if_neg (by omega), if_neg (by omega), if_neg (by omega), if_neg (by omega)]
                    have htt24 : (t).length ≤ 24 := by have h9 := (dfR_ok (w := w) (hK.tx (by omega))).1; rw [hdf] at h9; exact h9
                    refine lv_aload_n hx hb dX2_drift_192 rfl (lv_at hl 2 rfl) ?_
                    refine lv_aload_n hx hb dX2_drift_193 rfl (lv_at hl 3 rfl) ?_
                    refine lv_aload_n hx hb dX2_drift_194 rfl (lv_at hl 4 rfl) ?_
                    refine g_cr (va_runS (As := [.ref ll]) (rest := [.ref (ra (wN w - 1)), .ref wa]) ⟨hx, hb, hml, hown, hts⟩ (metX0_rowOf_l hN hT htt24) (va_cwS 1 hts (lw_S q3172 q1289 q87 q1290) rfl rfl rfl (by decide +kernel) ⟨Nat.le_of_ble_eq_true rfl, Nat.le_of_ble_eq_true rfl⟩) (g_preS hG) rfl rfl hl.1 rfl (lv_room (Nat.le_of_ble_eq_true rfl)) dX2_drift_195 ⟨by show _ ≤ 40; omega, by show _ ≤ 170; omega⟩) hG (fun lt G3 V_27 ws_ H locs hp hG => ?_)
                    obtain ⟨hle_G3, rfl, htx3, rfl⟩ := hp
                    have hG : gW X G3 V_7 ((ll, oB 27 [.int (zI mo), .int (zI (N.length : Int)), va_rf (hdO N), va_rf (tlO N)]) :: Z) s H locs := hG
                    have hw0 := hW.1
                    have hw0 : V_7 4 = some (wa, oB 2 [.int (zI (wN w : Int)), .int (zI (wM w : Int)), .int (zI (wRun w : Int)), .int (zI (wNeed w : Int)), .int (zI (wMar w : Int)), .int vv1, .ref rv, .ref rk, .ref st]) := hw0
                    refine g_ci (va_runV (As := [.ref (ra (wN w - 1)), .ref lt]) (rest := []) ⟨hx, hb, hml, hown, hts⟩ (metX2_add (w := wSeedTo w vv1) (fo := some (wN w - 1)) (t := t) (hW.mono hle_G3) (hKS vv1) (by show wN w < 16; omega) (hfo9 vv1) htx3) (cwV 2 hts (lw_V q3173 q1711 q1712 q100 q1713) rfl rfl rfl (by decide +kernel) ⟨Nat.le_of_ble_eq_true rfl, Nat.le_of_ble_eq_true rfl⟩) (g_preV hG (g_recv hG (hG.vo hw0) (ci := 2) rfl)) rfl rfl hl.1 rfl (lv_room (Nat.le_of_ble_eq_true rfl)) dX2_drift_198 ⟨by show _ ≤ 40; omega, by show _ ≤ 170; omega⟩) hG (fun r_28 G4 V_29 ws_ H locs hp hG => ?_)
                    obtain ⟨hle_G4, rfl, ra9, la9, hW9, hB9, rfl⟩ := hp
                    have hG : gW X G4 V_29 ((ll, oB 27 [.int (zI mo), .int (zI (N.length : Int)), va_rf (hdO N), va_rf (tlO N)]) :: Z) s H locs := hG
                    have hG : gW X G4 V_29 (Z) s _ _ := hG.drop 0 rfl rfl
                    refine lv_pop hx hb dX2_drift_201 rfl ?_
                    exact g_vret hx hb hr hlocks hG (⟨(hle_G3.tr hle_G4), ra9, la9, by unfold wDrift; rw [hdf]; exact hW9, hD.tr hB9.d, rfl⟩) ⟨by show _ ≤ 40; omega, by show _ ≤ 170; omega⟩ dX2_drift_202
                  · exfalso; omega
                · exfalso; omega
              · exfalso; omega
          · exfalso; omega
        · refine lv_iload_n hx hb dX2_drift_84 rfl (lv_at hl 1 rfl) ?_
          refine g_ne (tgt := 118) hx hb dX2_drift_85 (by decide) (by omega) (fun h2 => ?_) (fun h2 => ?_)
          · refine lv_iload_n hx hb dX2_drift_118 rfl (lv_at hl 1 rfl) ?_
            refine lv_iconst (v := zI 1) hx hb dX2_drift_119 (by decide +kernel) ?_
            refine g_cne (tgt := 140) hx hb dX2_drift_120 (by decide) (by omega) (fun h3 => ?_) (fun h3 => ?_)
            · refine lv_iload_n hx hb dX2_drift_140 rfl (lv_at hl 1 rfl) ?_
              refine lv_iconst (v := zI 2) hx hb dX2_drift_141 (by decide +kernel) ?_
              refine g_cne (tgt := 168) hx hb dX2_drift_142 (by decide) (by omega) (fun h4 => ?_) (fun h4 => ?_)
              · exfalso; omega
              · refine lv_aload_n hx hb dX2_drift_145 rfl (lv_at hl 4 rfl) ?_
                refine g_ci (va_runU (C := "java/util/LinkedList") (As := []) (rest := []) ⟨hx, hb, hml, hown, hts⟩ (metJ5_isEmpty (N := N) (by omega)) (va_cwU 0 hts (lw_U q3148 q3149 q3151 q3152 q95 q3153) rfl rfl rfl rfl (by decide +kernel) ⟨Nat.le_of_ble_eq_true rfl, Nat.le_of_ble_eq_true rfl⟩) (g_preV hG (g_recv hG (hG.at 0 rfl) (ci := 27) rfl)) rfl rfl hl.1 rfl (lv_room (Nat.le_of_ble_eq_true rfl)) dX2_drift_146 ⟨by show _ ≤ 40; omega, by show _ ≤ 170; omega⟩) hG (fun r_30 F_31 V_32 ws_ H locs hp hG => ?_)
                obtain ⟨rfl, rfl, rfl, rfl⟩ := hp
                have hG : gW X F V_7 ((ll, oB 27 [.int (zI mo), .int (zI (N.length : Int)), va_rf (hdO N), va_rf (tlO N)]) :: Z) s H locs := hG
                refine g_topz (y := 1) (by rw [decide_eq_true (by omega)]; rfl) ?_
                refine g_ne (tgt := 168) hx hb dX2_drift_149 (by decide) (by decide) (fun h9 => ?_) (fun h9 => ?_)
                · refine lv_iload_n hx hb dX2_drift_168 rfl (lv_at hl 1 rfl) ?_
                  refine lv_iconst (v := zI 3) hx hb dX2_drift_169 (by decide +kernel) ?_
                  refine g_cne (tgt := 192) hx hb dX2_drift_170 (by decide) (by omega) (fun h6 => ?_) (fun h6 => ?_)
                  · have hdf : dfR w = (t, vv1) := by unfold dfR; rw [hA, ← ht, hkR, hV2, if_neg (by omega), if_neg (by omega), if_neg (by omega), if_neg (by omega)]
                    have htt24 : (t).length ≤ 24 := by have h9 := (dfR_ok (w := w) (hK.tx (by omega))).1; rw [hdf] at h9; exact h9
                    refine lv_aload_n hx hb dX2_drift_192 rfl (lv_at hl 2 rfl) ?_
                    refine lv_aload_n hx hb dX2_drift_193 rfl (lv_at hl 3 rfl) ?_
                    refine lv_aload_n hx hb dX2_drift_194 rfl (lv_at hl 4 rfl) ?_
                    refine g_cr (va_runS (As := [.ref ll]) (rest := [.ref (ra (wN w - 1)), .ref wa]) ⟨hx, hb, hml, hown, hts⟩ (metX0_rowOf_l hN hT htt24) (va_cwS 1 hts (lw_S q3172 q1289 q87 q1290) rfl rfl rfl (by decide +kernel) ⟨Nat.le_of_ble_eq_true rfl, Nat.le_of_ble_eq_true rfl⟩) (g_preS hG) rfl rfl hl.1 rfl (lv_room (Nat.le_of_ble_eq_true rfl)) dX2_drift_195 ⟨by show _ ≤ 40; omega, by show _ ≤ 170; omega⟩) hG (fun lt G3 V_33 ws_ H locs hp hG => ?_)
                    obtain ⟨hle_G3, rfl, htx3, rfl⟩ := hp
                    have hG : gW X G3 V_7 ((ll, oB 27 [.int (zI mo), .int (zI (N.length : Int)), va_rf (hdO N), va_rf (tlO N)]) :: Z) s H locs := hG
                    have hw0 := hW.1
                    have hw0 : V_7 4 = some (wa, oB 2 [.int (zI (wN w : Int)), .int (zI (wM w : Int)), .int (zI (wRun w : Int)), .int (zI (wNeed w : Int)), .int (zI (wMar w : Int)), .int vv1, .ref rv, .ref rk, .ref st]) := hw0
                    refine g_ci (va_runV (As := [.ref (ra (wN w - 1)), .ref lt]) (rest := []) ⟨hx, hb, hml, hown, hts⟩ (metX2_add (w := wSeedTo w vv1) (fo := some (wN w - 1)) (t := t) (hW.mono hle_G3) (hKS vv1) (by show wN w < 16; omega) (hfo9 vv1) htx3) (cwV 2 hts (lw_V q3173 q1711 q1712 q100 q1713) rfl rfl rfl (by decide +kernel) ⟨Nat.le_of_ble_eq_true rfl, Nat.le_of_ble_eq_true rfl⟩) (g_preV hG (g_recv hG (hG.vo hw0) (ci := 2) rfl)) rfl rfl hl.1 rfl (lv_room (Nat.le_of_ble_eq_true rfl)) dX2_drift_198 ⟨by show _ ≤ 40; omega, by show _ ≤ 170; omega⟩) hG (fun r_34 G4 V_35 ws_ H locs hp hG => ?_)
                    obtain ⟨hle_G4, rfl, ra9, la9, hW9, hB9, rfl⟩ := hp
                    have hG : gW X G4 V_35 ((ll, oB 27 [.int (zI mo), .int (zI (N.length : Int)), va_rf (hdO N), va_rf (tlO N)]) :: Z) s H locs := hG
                    have hG : gW X G4 V_35 (Z) s _ _ := hG.drop 0 rfl rfl
                    refine lv_pop hx hb dX2_drift_201 rfl ?_
                    exact g_vret hx hb hr hlocks hG (⟨(hle_G3.tr hle_G4), ra9, la9, by unfold wDrift; rw [hdf]; exact hW9, hD.tr hB9.d, rfl⟩) ⟨by show _ ≤ 40; omega, by show _ ≤ 170; omega⟩ dX2_drift_202
                  · exfalso; omega
                · exfalso; omega
            · exfalso; omega
          · exfalso; omega
        · refine lv_iload_n hx hb dX2_drift_84 rfl (lv_at hl 1 rfl) ?_
          refine g_ne (tgt := 118) hx hb dX2_drift_85 (by decide) (by omega) (fun h2 => ?_) (fun h2 => ?_)
          · refine lv_iload_n hx hb dX2_drift_118 rfl (lv_at hl 1 rfl) ?_
            refine lv_iconst (v := zI 1) hx hb dX2_drift_119 (by decide +kernel) ?_
            refine g_cne (tgt := 140) hx hb dX2_drift_120 (by decide) (by omega) (fun h3 => ?_) (fun h3 => ?_)
            · refine lv_iload_n hx hb dX2_drift_140 rfl (lv_at hl 1 rfl) ?_
              refine lv_iconst (v := zI 2) hx hb dX2_drift_141 (by decide +kernel) ?_
              refine g_cne (tgt := 168) hx hb dX2_drift_142 (by decide) (by omega) (fun h4 => ?_) (fun h4 => ?_)
              · refine lv_iload_n hx hb dX2_drift_168 rfl (lv_at hl 1 rfl) ?_
                refine lv_iconst (v := zI 3) hx hb dX2_drift_169 (by decide +kernel) ?_
                refine g_cne (tgt := 192) hx hb dX2_drift_170 (by decide) (by omega) (fun h5 => ?_) (fun h5 => ?_)
                · exfalso; omega
                · refine lv_aload_n hx hb dX2_drift_173 rfl (lv_at hl 4 rfl) ?_
                  refine g_ci (va_runU (C := "java/util/LinkedList") (As := []) (rest := []) ⟨hx, hb, hml, hown, hts⟩ (metJ5_isEmpty (N := N) (by omega)) (va_cwU 0 hts (lw_U q3148 q3149 q3151 q3152 q95 q3153) rfl rfl rfl rfl (by decide +kernel) ⟨Nat.le_of_ble_eq_true rfl, Nat.le_of_ble_eq_true rfl⟩) (g_preV hG (g_recv hG (hG.at 0 rfl) (ci := 27) rfl)) rfl rfl hl.1 rfl (lv_room (Nat.le_of_ble_eq_true rfl)) dX2_drift_174 ⟨by show _ ≤ 40; omega, by show _ ≤ 170; omega⟩) hG (fun r_36 F_37 V_38 ws_ H locs hp hG => ?_)
                  obtain ⟨rfl, rfl, rfl, rfl⟩ := hp
                  have hG : gW X F V_7 ((ll, oB 27 [.int (zI mo), .int (zI (N.length : Int)), va_rf (hdO N), va_rf (tlO N)]) :: Z) s H locs := hG
                  refine g_topz (y := 1) (by rw [decide_eq_true (by omega)]; rfl) ?_
                  refine g_ne (tgt := 192) hx hb dX2_drift_177 (by decide) (by decide) (fun h9 => ?_) (fun h9 => ?_)
                  · have hdf : dfR w = (t, vv1) := by unfold dfR; rw [hA, ← ht, hkR, hV2, if_neg (by omega), if_neg (by omega), if_neg (by omega), if_neg (by omega)]
                    have htt24 : (t).length ≤ 24 := by have h9 := (dfR_ok (w := w) (hK.tx (by omega))).1; rw [hdf] at h9; exact h9
                    refine lv_aload_n hx hb dX2_drift_192 rfl (lv_at hl 2 rfl) ?_
                    refine lv_aload_n hx hb dX2_drift_193 rfl (lv_at hl 3 rfl) ?_
                    refine lv_aload_n hx hb dX2_drift_194 rfl (lv_at hl 4 rfl) ?_
                    refine g_cr (va_runS (As := [.ref ll]) (rest := [.ref (ra (wN w - 1)), .ref wa]) ⟨hx, hb, hml, hown, hts⟩ (metX0_rowOf_l hN hT htt24) (va_cwS 1 hts (lw_S q3172 q1289 q87 q1290) rfl rfl rfl (by decide +kernel) ⟨Nat.le_of_ble_eq_true rfl, Nat.le_of_ble_eq_true rfl⟩) (g_preS hG) rfl rfl hl.1 rfl (lv_room (Nat.le_of_ble_eq_true rfl)) dX2_drift_195 ⟨by show _ ≤ 40; omega, by show _ ≤ 170; omega⟩) hG (fun lt G3 V_39 ws_ H locs hp hG => ?_)
                    obtain ⟨hle_G3, rfl, htx3, rfl⟩ := hp
                    have hG : gW X G3 V_7 ((ll, oB 27 [.int (zI mo), .int (zI (N.length : Int)), va_rf (hdO N), va_rf (tlO N)]) :: Z) s H locs := hG
                    have hw0 := hW.1
                    have hw0 : V_7 4 = some (wa, oB 2 [.int (zI (wN w : Int)), .int (zI (wM w : Int)), .int (zI (wRun w : Int)), .int (zI (wNeed w : Int)), .int (zI (wMar w : Int)), .int vv1, .ref rv, .ref rk, .ref st]) := hw0
                    refine g_ci (va_runV (As := [.ref (ra (wN w - 1)), .ref lt]) (rest := []) ⟨hx, hb, hml, hown, hts⟩ (metX2_add (w := wSeedTo w vv1) (fo := some (wN w - 1)) (t := t) (hW.mono hle_G3) (hKS vv1) (by show wN w < 16; omega) (hfo9 vv1) htx3) (cwV 2 hts (lw_V q3173 q1711 q1712 q100 q1713) rfl rfl rfl (by decide +kernel) ⟨Nat.le_of_ble_eq_true rfl, Nat.le_of_ble_eq_true rfl⟩) (g_preV hG (g_recv hG (hG.vo hw0) (ci := 2) rfl)) rfl rfl hl.1 rfl (lv_room (Nat.le_of_ble_eq_true rfl)) dX2_drift_198 ⟨by show _ ≤ 40; omega, by show _ ≤ 170; omega⟩) hG (fun r_40 G4 V_41 ws_ H locs hp hG => ?_)
                    obtain ⟨hle_G4, rfl, ra9, la9, hW9, hB9, rfl⟩ := hp
                    have hG : gW X G4 V_41 ((ll, oB 27 [.int (zI mo), .int (zI (N.length : Int)), va_rf (hdO N), va_rf (tlO N)]) :: Z) s H locs := hG
                    have hG : gW X G4 V_41 (Z) s _ _ := hG.drop 0 rfl rfl
                    refine lv_pop hx hb dX2_drift_201 rfl ?_
                    exact g_vret hx hb hr hlocks hG (⟨(hle_G3.tr hle_G4), ra9, la9, by unfold wDrift; rw [hdf]; exact hW9, hD.tr hB9.d, rfl⟩) ⟨by show _ ≤ 40; omega, by show _ ≤ 170; omega⟩ dX2_drift_202
                  · exfalso; omega
              · exfalso; omega
            · exfalso; omega
          · exfalso; omega
    · refine g_ci (va_runU (C := "java/util/LinkedList") (As := []) (rest := []) ⟨hx, hb, hml, hown, hts⟩ (metJ5_isEmpty (N := N) (by omega)) (va_cwU 0 hts (lw_U q3148 q3149 q3151 q3152 q95 q3153) rfl rfl rfl rfl (by decide +kernel) ⟨Nat.le_of_ble_eq_true rfl, Nat.le_of_ble_eq_true rfl⟩) (g_preV hG (g_recv hG (hG.at 0 rfl) (ci := 27) rfl)) rfl rfl hl.1 rfl (lv_room (Nat.le_of_ble_eq_true rfl)) dX2_drift_64 ⟨by show _ ≤ 40; omega, by show _ ≤ 170; omega⟩) hG (fun r_42 F_43 V_44 ws_ H locs hp hG => ?_)
      obtain ⟨rfl, rfl, rfl, rfl⟩ := hp
      have hG : gW X F V_7 ((ll, oB 27 [.int (zI mo), .int (zI (N.length : Int)), va_rf (hdO N), va_rf (tlO N)]) :: Z) s H locs := hG
      refine g_topz (y := 0) (by rw [decide_eq_false (by omega)]; rfl) ?_
      refine g_eq (tgt := 74) hx hb dX2_drift_67 (by decide) (by decide) (fun h1 => ?_) (fun h1 => ?_)
      · obtain ⟨vv2, hv2⟩ : ∃ v, v = sDraw vv1 := ⟨_, rfl⟩
        obtain ⟨k1, hk1⟩ : ∃ a, a = hi16 vv2 % N.length := ⟨_, rfl⟩
        have hkl : k1 < t.length := by rw [hk1, hNt]; exact Nat.mod_lt _ h0
        have hV2 : dfV2 w = vv2 := by unfold dfV2 dfV1; rw [← ht, if_neg (by omega), ← hv1, hv2]
        have hkR : dfK w = k1 := by unfold dfK dfV1; rw [← ht, if_neg (by omega), ← hv1, ← hv2, hk1, hNt]
        have hw0 := hW.1
        have hw0 : V_7 4 = some (wa, oB 2 [.int (zI (wN w : Int)), .int (zI (wM w : Int)), .int (zI (wRun w : Int)), .int (zI (wNeed w : Int)), .int (zI (wMar w : Int)), .int vv1, .ref rv, .ref rk, .ref st]) := hw0
        refine lv_aload_n hx hb dX2_drift_74 rfl (lv_at hl 1 rfl) ?_
        refine lv_aload_n hx hb dX2_drift_75 rfl (lv_at hl 3 rfl) ?_
        refine g_ci (va_runV (As := []) (rest := [.ref wa]) ⟨hx, hb, hml, hown, hts⟩ (metJ41_size) (cwV 0 hts (lw_V q3155 q932 q3765 q156 q933) rfl rfl rfl (by decide +kernel) ⟨Nat.le_of_ble_eq_true rfl, Nat.le_of_ble_eq_true rfl⟩) (g_preV hG (g_recv hG (hG.at 0 rfl) (ci := 27) rfl)) rfl rfl hl.1 rfl (lv_room (Nat.le_of_ble_eq_true rfl)) dX2_drift_76 ⟨by show _ ≤ 40; omega, by show _ ≤ 170; omega⟩) hG (fun r_45 F_46 V_47 ws_ H locs hp hG => ?_)
        obtain ⟨rfl, rfl, rfl, rfl⟩ := hp
        have hG : gW X F V_7 ((ll, oB 27 [.int (zI mo), .int (zI (N.length : Int)), va_rf (hdO N), va_rf (tlO N)]) :: Z) s H locs := hG
        refine g_ci (va_runV (As := [.int (zI (N.length : Int))]) (rest := []) ⟨hx, hb, hml, hown, hts⟩ (metX2_draw (n := N.length) (w := (wSeedTo w vv1)) hW (hKS vv1) ⟨by omega, by omega⟩) (cwV 1 hts (lw_V q3143 q3144 q3145 q100 q3146) rfl rfl rfl (by decide +kernel) ⟨Nat.le_of_ble_eq_true rfl, Nat.le_of_ble_eq_true rfl⟩) (g_preV hG (g_recv hG (hG.vo hw0) (ci := 2) rfl)) rfl rfl hl.1 rfl (lv_room (Nat.le_of_ble_eq_true rfl)) dX2_drift_79 ⟨by show _ ≤ 40; omega, by show _ ≤ 170; omega⟩) hG (fun r_48 F_49 V_50 ws_ H locs hp hG => ?_)
        obtain ⟨hu, rfl, hWx, hBx, rfl⟩ := hp
        have hW : xWd X F V_50 4 (wSeedTo w vv2) wa rv rk st ra la ma := by rw [hv2]; exact hWx
        have hu : r_48 = zI ((k1 : Nat) : Int) := by rw [hk1, hv2]; exact hu
        subst hu
        have hN := hN.cg (fun r9 h9 => hBx r9 (Or.inr (by omega)))
        have hD := hD.tr hBx.d
        have hG : gW X F V_50 ((ll, oB 27 [.int (zI mo), .int (zI (N.length : Int)), va_rf (hdO N), va_rf (tlO N)]) :: Z) s H locs := hG
        refine lv_istore (lv' := [(4, .int (zI ((k1 : Nat) : Int))), (3, .int (zI ((a1 : Nat) : Int))), (0, .ref wa), (1, .ref (ra (wN w - 1))), (2, .ref ll), (5, .int (zI (j : Int)))]) hx hb dX2_drift_82 hl (by decide) rfl (fun ls hl => ?_)
        rcases (show a1 = 0 ∨ a1 = 1 ∨ a1 = 2 ∨ a1 = 3 by omega) with hq | hq | hq | hq
        · refine lv_iload_n hx hb dX2_drift_84 rfl (lv_at hl 1 rfl) ?_
          refine g_ne (tgt := 118) hx hb dX2_drift_85 (by decide) (by omega) (fun h2 => ?_) (fun h2 => ?_)
          · exfalso; omega
          · refine lv_aload_n hx hb dX2_drift_88 rfl (lv_at hl 4 rfl) ?_
            refine g_ci (va_runV (As := []) (rest := []) ⟨hx, hb, hml, hown, hts⟩ (metJ41_size) (cwV 0 hts (lw_V q3155 q932 q3765 q156 q933) rfl rfl rfl (by decide +kernel) ⟨Nat.le_of_ble_eq_true rfl, Nat.le_of_ble_eq_true rfl⟩) (g_preV hG (g_recv hG (hG.at 0 rfl) (ci := 27) rfl)) rfl rfl hl.1 rfl (lv_room (Nat.le_of_ble_eq_true rfl)) dX2_drift_89 ⟨by show _ ≤ 40; omega, by show _ ≤ 170; omega⟩) hG (fun r_51 F_52 V_53 ws_ H locs hp hG => ?_)
            obtain ⟨rfl, rfl, rfl, rfl⟩ := hp
            have hG : gW X F V_50 ((ll, oB 27 [.int (zI mo), .int (zI (N.length : Int)), va_rf (hdO N), va_rf (tlO N)]) :: Z) s H locs := hG
            refine lv_bipush (v := zI 24) hx hb dX2_drift_92 (by decide +kernel) ?_
            refine g_cge (tgt := 118) hx hb dX2_drift_94 (by decide) (by omega) (fun h3 => ?_) (fun h3 => ?_)
            · refine lv_iload_n hx hb dX2_drift_118 rfl (lv_at hl 1 rfl) ?_
              refine lv_iconst (v := zI 1) hx hb dX2_drift_119 (by decide +kernel) ?_
              refine g_cne (tgt := 140) hx hb dX2_drift_120 (by decide) (by omega) (fun h4 => ?_) (fun h4 => ?_)
              · refine lv_iload_n hx hb dX2_drift_140 rfl (lv_at hl 1 rfl) ?_
                refine lv_iconst (v := zI 2) hx hb dX2_drift_141 (by decide +kernel) ?_
                refine g_cne (tgt := 168) hx hb dX2_drift_142 (by decide) (by omega) (fun h5 => ?_) (fun h5 => ?_)
                · refine lv_iload_n hx hb dX2_drift_168 rfl (lv_at hl 1 rfl) ?_
                  refine lv_iconst (v := zI 3) hx hb dX2_drift_169 (by decide +kernel) ?_
                  refine g_cne (tgt := 192) hx hb dX2_drift_170 (by decide) (by omega) (fun h6 => ?_) (fun h6 => ?_)
                  · have hdf : dfR w = (t, vv2) := by unfold dfR; rw [hA, ← ht, hkR, hV2, if_neg (by omega), if_neg (by omega), if_neg (by omega), if_neg (by omega)]
                    have htt24 : (t).length ≤ 24 := by have h9 := (dfR_ok (w := w) (hK.tx (by omega))).1; rw [hdf] at h9; exact h9
                    refine lv_aload_n hx hb dX2_drift_192 rfl (lv_at hl 2 rfl) ?_
                    refine lv_aload_n hx hb dX2_drift_193 rfl (lv_at hl 3 rfl) ?_
                    refine lv_aload_n hx hb dX2_drift_194 rfl (lv_at hl 4 rfl) ?_
                    refine g_cr (va_runS (As := [.ref ll]) (rest := [.ref (ra (wN w - 1)), .ref wa]) ⟨hx, hb, hml, hown, hts⟩ (metX0_rowOf_l hN hT htt24) (va_cwS 1 hts (lw_S q3172 q1289 q87 q1290) rfl rfl rfl (by decide +kernel) ⟨Nat.le_of_ble_eq_true rfl, Nat.le_of_ble_eq_true rfl⟩) (g_preS hG) rfl rfl hl.1 rfl (lv_room (Nat.le_of_ble_eq_true rfl)) dX2_drift_195 ⟨by show _ ≤ 40; omega, by show _ ≤ 170; omega⟩) hG (fun lt G3 V_54 ws_ H locs hp hG => ?_)
                    obtain ⟨hle_G3, rfl, htx3, rfl⟩ := hp
                    have hG : gW X G3 V_50 ((ll, oB 27 [.int (zI mo), .int (zI (N.length : Int)), va_rf (hdO N), va_rf (tlO N)]) :: Z) s H locs := hG
                    have hw0 := hW.1
                    have hw0 : V_50 4 = some (wa, oB 2 [.int (zI (wN w : Int)), .int (zI (wM w : Int)), .int (zI (wRun w : Int)), .int (zI (wNeed w : Int)), .int (zI (wMar w : Int)), .int vv2, .ref rv, .ref rk, .ref st]) := hw0
                    refine g_ci (va_runV (As := [.ref (ra (wN w - 1)), .ref lt]) (rest := []) ⟨hx, hb, hml, hown, hts⟩ (metX2_add (w := wSeedTo w vv2) (fo := some (wN w - 1)) (t := t) (hW.mono hle_G3) (hKS vv2) (by show wN w < 16; omega) (hfo9 vv2) htx3) (cwV 2 hts (lw_V q3173 q1711 q1712 q100 q1713) rfl rfl rfl (by decide +kernel) ⟨Nat.le_of_ble_eq_true rfl, Nat.le_of_ble_eq_true rfl⟩) (g_preV hG (g_recv hG (hG.vo hw0) (ci := 2) rfl)) rfl rfl hl.1 rfl (lv_room (Nat.le_of_ble_eq_true rfl)) dX2_drift_198 ⟨by show _ ≤ 40; omega, by show _ ≤ 170; omega⟩) hG (fun r_55 G4 V_56 ws_ H locs hp hG => ?_)
                    obtain ⟨hle_G4, rfl, ra9, la9, hW9, hB9, rfl⟩ := hp
                    have hG : gW X G4 V_56 ((ll, oB 27 [.int (zI mo), .int (zI (N.length : Int)), va_rf (hdO N), va_rf (tlO N)]) :: Z) s H locs := hG
                    have hG : gW X G4 V_56 (Z) s _ _ := hG.drop 0 rfl rfl
                    refine lv_pop hx hb dX2_drift_201 rfl ?_
                    exact g_vret hx hb hr hlocks hG (⟨(hle_G3.tr hle_G4), ra9, la9, by unfold wDrift; rw [hdf]; exact hW9, hD.tr hB9.d, rfl⟩) ⟨by show _ ≤ 40; omega, by show _ ≤ 170; omega⟩ dX2_drift_202
                  · exfalso; omega
                · exfalso; omega
              · exfalso; omega
            · obtain ⟨vv3, hv3⟩ : ∃ v, v = sDraw vv2 := ⟨_, rfl⟩
              obtain ⟨c1, hc1⟩ : ∃ a, a = hi16 vv3 % 26 := ⟨_, rfl⟩
              have hc26 : c1 < 26 := by omega
              have hw0 := hW.1
              have hw0 : V_50 4 = some (wa, oB 2 [.int (zI (wN w : Int)), .int (zI (wM w : Int)), .int (zI (wRun w : Int)), .int (zI (wNeed w : Int)), .int (zI (wMar w : Int)), .int vv2, .ref rv, .ref rk, .ref st]) := hw0
              refine lv_aload_n hx hb dX2_drift_97 rfl (lv_at hl 4 rfl) ?_
              refine lv_iload hx hb dX2_drift_98 (lv_at hl 0 rfl) ?_
              refine lv_bipush (v := zI 97) hx hb dX2_drift_100 (by decide +kernel) ?_
              refine lv_aload_n hx hb dX2_drift_102 rfl (lv_at hl 2 rfl) ?_
              refine lv_bipush (v := zI 26) hx hb dX2_drift_103 (by decide +kernel) ?_
              refine g_topz (y := ((26 : Nat) : Int)) rfl ?_
              refine g_ci (va_runV (As := [.int (zI ((26 : Nat) : Int))]) (rest := [.int (zI 97), .int (zI ((k1 : Nat) : Int)), .ref ll]) ⟨hx, hb, hml, hown, hts⟩ (metX2_draw (n := 26) (w := (wSeedTo w vv2)) hW (hKS vv2) (by decide)) (cwV 1 hts (lw_V q3143 q3144 q3145 q100 q3146) rfl rfl rfl (by decide +kernel) ⟨Nat.le_of_ble_eq_true rfl, Nat.le_of_ble_eq_true rfl⟩) (g_preV hG (g_recv hG (hG.vo hw0) (ci := 2) rfl)) rfl rfl hl.1 rfl (lv_room (Nat.le_of_ble_eq_true rfl)) dX2_drift_105 ⟨by show _ ≤ 40; omega, by show _ ≤ 170; omega⟩) hG (fun r_57 F_58 V_59 ws_ H locs hp hG => ?_)
              obtain ⟨hu, rfl, hWx, hBx, rfl⟩ := hp
              have hW : xWd X F V_59 4 (wSeedTo w vv3) wa rv rk st ra la ma := by rw [hv3]; exact hWx
              have hu : r_57 = zI ((c1 : Nat) : Int) := by rw [hc1, hv3]; exact hu
              subst hu
              have hN := hN.cg (fun r9 h9 => hBx r9 (Or.inr (by omega)))
              have hD := hD.tr hBx.d
              have hG : gW X F V_59 ((ll, oB 27 [.int (zI mo), .int (zI (N.length : Int)), va_rf (hdO N), va_rf (tlO N)]) :: Z) s H locs := hG
              refine g_iadd hx hb dX2_drift_108 ?_
              refine g_topz (y := ((97 + c1 : Nat) : Int)) (by omega) ?_
              refine g_cr (va_runS (As := [.int (zI ((97 + c1 : Nat) : Int))]) (rest := [.int (zI ((k1 : Nat) : Int)), .ref ll]) ⟨hx, hb, hml, hown, hts⟩ (metX2_ofLetter (ch := 97 + c1) (by omega)) (va_cwS 1 hts (lw_S q3156 q3157 q100 q3158) rfl rfl rfl (by decide +kernel) ⟨Nat.le_of_ble_eq_true rfl, Nat.le_of_ble_eq_true rfl⟩) (g_preS hG) rfl rfl hl.1 rfl (lv_room (Nat.le_of_ble_eq_true rfl)) dX2_drift_109 ⟨by show _ ≤ 40; omega, by show _ ≤ 170; omega⟩) hG (fun ln G2 V_60 ws_ H locs hp hG => ?_)
              obtain ⟨hle_G2, rfl, hln9, rfl⟩ := hp
              have hG : gW X G2 V_59 ((ll, oB 27 [.int (zI mo), .int (zI (N.length : Int)), va_rf (hdO N), va_rf (tlO N)]) :: Z) s H locs := hG
              refine g_cv (va_runV (As := [.int (zI ((k1 : Nat) : Int)), .ref ln]) (rest := []) ⟨hx, hb, hml, hown, hts⟩ (metJ41_add (i := k1) hN (by omega) (by omega)) (cwV 2 hts (lw_V q3161 q1192 q3775 q156 q1193) rfl rfl rfl (by decide +kernel) ⟨Nat.le_of_ble_eq_true rfl, Nat.le_of_ble_eq_true rfl⟩) (g_preV hG (g_recv hG (hG.at 0 rfl) (ci := 27) rfl)) rfl rfl hl.1 rfl (lv_room (Nat.le_of_ble_eq_true rfl)) dX2_drift_112 ⟨by show _ ≤ 40; omega, by show _ ≤ 170; omega⟩) hG (fun F_62 V_63 ws_ H locs hp hG => ?_)
              obtain ⟨rfl, a9, hN9, hv9, rfl⟩ := hp
              have hG : gW X G2 V_63 ((ll, oB 27 [.int (zI (mo + 1)), .int (zI ((insN N k1 (B, a9, ln)).length : Int)), va_rf (hdO (insN N k1 (B, a9, ln))), va_rf (tlO (insN N k1 (B, a9, ln)))]) :: Z) s H locs := hG
              have hN := hN9
              have hD := hD.tr hv9.d
              have hW : xWd X G2 V_63 4 (wSeedTo w vv3) wa rv rk st ra la ma := (hW.mono hle_G2).cg (fun r9 _ h9 => hv9 r9 (by omega))
              obtain ⟨tt, htt⟩ : ∃ x, x = insT t k1 [97 + c1] := ⟨_, rfl⟩
              have hT2 : llT X G2 (insN N k1 (B, a9, ln)) tt := by rw [htt]; exact (hT.mono hle_G2).ins (by omega) hln9
              refine lv_goto (tgt := 192) hx hb dX2_drift_115 (by decide) ?_
              have hdf : dfR w = (tt, vv3) := by unfold dfR; rw [hA, ← ht, hkR, hV2, if_pos (by omega), htt, hc1, hv3]
              have htt24 : (tt).length ≤ 24 := by have h9 := (dfR_ok (w := w) (hK.tx (by omega))).1; rw [hdf] at h9; exact h9
              refine lv_aload_n hx hb dX2_drift_192 rfl (lv_at hl 2 rfl) ?_
              refine lv_aload_n hx hb dX2_drift_193 rfl (lv_at hl 3 rfl) ?_
              refine lv_aload_n hx hb dX2_drift_194 rfl (lv_at hl 4 rfl) ?_
              refine g_cr (va_runS (As := [.ref ll]) (rest := [.ref (ra (wN w - 1)), .ref wa]) ⟨hx, hb, hml, hown, hts⟩ (metX0_rowOf_l hN hT2 htt24) (va_cwS 1 hts (lw_S q3172 q1289 q87 q1290) rfl rfl rfl (by decide +kernel) ⟨Nat.le_of_ble_eq_true rfl, Nat.le_of_ble_eq_true rfl⟩) (g_preS hG) rfl rfl hl.1 rfl (lv_room (Nat.le_of_ble_eq_true rfl)) dX2_drift_195 ⟨by show _ ≤ 40; omega, by show _ ≤ 170; omega⟩) hG (fun lt G3 V_64 ws_ H locs hp hG => ?_)
              obtain ⟨hle_G3, rfl, htx3, rfl⟩ := hp
              have hG : gW X G3 V_63 ((ll, oB 27 [.int (zI (mo + 1)), .int (zI ((insN N k1 (B, a9, ln)).length : Int)), va_rf (hdO (insN N k1 (B, a9, ln))), va_rf (tlO (insN N k1 (B, a9, ln)))]) :: Z) s H locs := hG
              have hw0 := hW.1
              have hw0 : V_63 4 = some (wa, oB 2 [.int (zI (wN w : Int)), .int (zI (wM w : Int)), .int (zI (wRun w : Int)), .int (zI (wNeed w : Int)), .int (zI (wMar w : Int)), .int vv3, .ref rv, .ref rk, .ref st]) := hw0
              refine g_ci (va_runV (As := [.ref (ra (wN w - 1)), .ref lt]) (rest := []) ⟨hx, hb, hml, hown, hts⟩ (metX2_add (w := wSeedTo w vv3) (fo := some (wN w - 1)) (t := tt) (hW.mono hle_G3) (hKS vv3) (by show wN w < 16; omega) (hfo9 vv3) htx3) (cwV 2 hts (lw_V q3173 q1711 q1712 q100 q1713) rfl rfl rfl (by decide +kernel) ⟨Nat.le_of_ble_eq_true rfl, Nat.le_of_ble_eq_true rfl⟩) (g_preV hG (g_recv hG (hG.vo hw0) (ci := 2) rfl)) rfl rfl hl.1 rfl (lv_room (Nat.le_of_ble_eq_true rfl)) dX2_drift_198 ⟨by show _ ≤ 40; omega, by show _ ≤ 170; omega⟩) hG (fun r_65 G4 V_66 ws_ H locs hp hG => ?_)
              obtain ⟨hle_G4, rfl, ra9, la9, hW9, hB9, rfl⟩ := hp
              have hG : gW X G4 V_66 ((ll, oB 27 [.int (zI (mo + 1)), .int (zI ((insN N k1 (B, a9, ln)).length : Int)), va_rf (hdO (insN N k1 (B, a9, ln))), va_rf (tlO (insN N k1 (B, a9, ln)))]) :: Z) s H locs := hG
              have hG : gW X G4 V_66 (Z) s _ _ := hG.drop 0 rfl rfl
              refine lv_pop hx hb dX2_drift_201 rfl ?_
              exact g_vret hx hb hr hlocks hG (⟨((hle_G2.tr hle_G3).tr hle_G4), ra9, la9, by unfold wDrift; rw [hdf]; exact hW9, hD.tr hB9.d, rfl⟩) ⟨by show _ ≤ 40; omega, by show _ ≤ 170; omega⟩ dX2_drift_202
        · refine lv_iload_n hx hb dX2_drift_84 rfl (lv_at hl 1 rfl) ?_
          refine g_ne (tgt := 118) hx hb dX2_drift_85 (by decide) (by omega) (fun h2 => ?_) (fun h2 => ?_)
          · refine lv_iload_n hx hb dX2_drift_118 rfl (lv_at hl 1 rfl) ?_
            refine lv_iconst (v := zI 1) hx hb dX2_drift_119 (by decide +kernel) ?_
            refine g_cne (tgt := 140) hx hb dX2_drift_120 (by decide) (by omega) (fun h3 => ?_) (fun h3 => ?_)
            · exfalso; omega
            · refine lv_aload_n hx hb dX2_drift_123 rfl (lv_at hl 4 rfl) ?_
              refine g_ci (va_runU (C := "java/util/LinkedList") (As := []) (rest := []) ⟨hx, hb, hml, hown, hts⟩ (metJ5_isEmpty (N := N) (by omega)) (va_cwU 0 hts (lw_U q3148 q3149 q3151 q3152 q95 q3153) rfl rfl rfl rfl (by decide +kernel) ⟨Nat.le_of_ble_eq_true rfl, Nat.le_of_ble_eq_true rfl⟩) (g_preV hG (g_recv hG (hG.at 0 rfl) (ci := 27) rfl)) rfl rfl hl.1 rfl (lv_room (Nat.le_of_ble_eq_true rfl)) dX2_drift_124 ⟨by show _ ≤ 40; omega, by show _ ≤ 170; omega⟩) hG (fun r_67 F_68 V_69 ws_ H locs hp hG => ?_)
              obtain ⟨rfl, rfl, rfl, rfl⟩ := hp
              have hG : gW X F V_50 ((ll, oB 27 [.int (zI mo), .int (zI (N.length : Int)), va_rf (hdO N), va_rf (tlO N)]) :: Z) s H locs := hG
              refine g_topz (y := 0) (by rw [decide_eq_false (by omega)]; rfl) ?_
              refine g_ne (tgt := 140) hx hb dX2_drift_127 (by decide) (by decide) (fun h9 => ?_) (fun h9 => ?_)
              · exfalso; omega
              · refine lv_aload_n hx hb dX2_drift_130 rfl (lv_at hl 4 rfl) ?_
                refine lv_iload hx hb dX2_drift_131 (lv_at hl 0 rfl) ?_
                refine g_cr (va_runV (As := [.int (zI ((k1 : Nat) : Int))]) (rest := []) ⟨hx, hb, hml, hown, hts⟩ (metJ41_remove (i := k1) hN (by omega) (by omega)) (cwV 1 hts (lw_V q3162 q2583 q3776 q156 q2584) rfl rfl rfl (by decide +kernel) ⟨Nat.le_of_ble_eq_true rfl, Nat.le_of_ble_eq_true rfl⟩) (g_preV hG (g_recv hG (hG.at 0 rfl) (ci := 27) rfl)) rfl rfl hl.1 rfl (lv_room (Nat.le_of_ble_eq_true rfl)) dX2_drift_133 ⟨by show _ ≤ 40; omega, by show _ ≤ 170; omega⟩) hG (fun r_70 F_71 V_72 ws_ H locs hp hG => ?_)
                obtain ⟨rfl, rfl, hN9, hv9, rfl⟩ := hp
                have hG : gW X F V_72 ((ll, oB 27 [.int (zI (mo + 1)), .int (zI ((N.eraseIdx k1).length : Int)), va_rf (hdO (N.eraseIdx k1)), va_rf (tlO (N.eraseIdx k1))]) :: Z) s H locs := hG
                have hN := hN9
                have hD := hD.tr hv9.d
                have hW : xWd X F V_72 4 (wSeedTo w vv2) wa rv rk st ra la ma := hW.cg (fun r9 _ h9 => hv9 r9 (by omega))
                obtain ⟨tt, htt⟩ : ∃ x, x = rmT t k1 := ⟨_, rfl⟩
                have hT2 : llT X F (N.eraseIdx k1) tt := by rw [htt]; exact hT.rem (by omega)
                refine lv_pop hx hb dX2_drift_136 rfl ?_
                refine lv_goto (tgt := 192) hx hb dX2_drift_137 (by decide) ?_
                have hdf : dfR w = (tt, vv2) := by unfold dfR; rw [hA, ← ht, hkR, hV2, if_neg (by omega), if_pos (by omega), htt]
                have htt24 : (tt).length ≤ 24 := by have h9 := (dfR_ok (w := w) (hK.tx (by omega))).1; rw [hdf] at h9; exact h9
                refine lv_aload_n hx hb dX2_drift_192 rfl (lv_at hl 2 rfl) ?_
                refine lv_aload_n hx hb dX2_drift_193 rfl (lv_at hl 3 rfl) ?_
                refine lv_aload_n hx hb dX2_drift_194 rfl (lv_at hl 4 rfl) ?_
                refine g_cr (va_runS (As := [.ref ll]) (rest := [.ref (ra (wN w - 1)), .ref wa]) ⟨hx, hb, hml, hown, hts⟩ (metX0_rowOf_l hN hT2 htt24) (va_cwS 1 hts (lw_S q3172 q1289 q87 q1290) rfl rfl rfl (by decide +kernel) ⟨Nat.le_of_ble_eq_true rfl, Nat.le_of_ble_eq_true rfl⟩) (g_preS hG) rfl rfl hl.1 rfl (lv_room (Nat.le_of_ble_eq_true rfl)) dX2_drift_195 ⟨by show _ ≤ 40; omega, by show _ ≤ 170; omega⟩) hG (fun lt G3 V_73 ws_ H locs hp hG => ?_)
                obtain ⟨hle_G3, rfl, htx3, rfl⟩ := hp
                have hG : gW X G3 V_72 ((ll, oB 27 [.int (zI (mo + 1)), .int (zI ((N.eraseIdx k1).length : Int)), va_rf (hdO (N.eraseIdx k1)), va_rf (tlO (N.eraseIdx k1))]) :: Z) s H locs := hG
                have hw0 := hW.1
                have hw0 : V_72 4 = some (wa, oB 2 [.int (zI (wN w : Int)), .int (zI (wM w : Int)), .int (zI (wRun w : Int)), .int (zI (wNeed w : Int)), .int (zI (wMar w : Int)), .int vv2, .ref rv, .ref rk, .ref st]) := hw0
                refine g_ci (va_runV (As := [.ref (ra (wN w - 1)), .ref lt]) (rest := []) ⟨hx, hb, hml, hown, hts⟩ (metX2_add (w := wSeedTo w vv2) (fo := some (wN w - 1)) (t := tt) (hW.mono hle_G3) (hKS vv2) (by show wN w < 16; omega) (hfo9 vv2) htx3) (cwV 2 hts (lw_V q3173 q1711 q1712 q100 q1713) rfl rfl rfl (by decide +kernel) ⟨Nat.le_of_ble_eq_true rfl, Nat.le_of_ble_eq_true rfl⟩) (g_preV hG (g_recv hG (hG.vo hw0) (ci := 2) rfl)) rfl rfl hl.1 rfl (lv_room (Nat.le_of_ble_eq_true rfl)) dX2_drift_198 ⟨by show _ ≤ 40; omega, by show _ ≤ 170; omega⟩) hG (fun r_74 G4 V_75 ws_ H locs hp hG => ?_)
                obtain ⟨hle_G4, rfl, ra9, la9, hW9, hB9, rfl⟩ := hp
                have hG : gW X G4 V_75 ((ll, oB 27 [.int (zI (mo + 1)), .int (zI ((N.eraseIdx k1).length : Int)), va_rf (hdO (N.eraseIdx k1)), va_rf (tlO (N.eraseIdx k1))]) :: Z) s H locs := hG
                have hG : gW X G4 V_75 (Z) s _ _ := hG.drop 0 rfl rfl
                refine lv_pop hx hb dX2_drift_201 rfl ?_
                exact g_vret hx hb hr hlocks hG (⟨(hle_G3.tr hle_G4), ra9, la9, by unfold wDrift; rw [hdf]; exact hW9, hD.tr hB9.d, rfl⟩) ⟨by show _ ≤ 40; omega, by show _ ≤ 170; omega⟩ dX2_drift_202
          · exfalso; omega
        · refine lv_iload_n hx hb dX2_drift_84 rfl (lv_at hl 1 rfl) ?_
          refine g_ne (tgt := 118) hx hb dX2_drift_85 (by decide) (by omega) (fun h2 => ?_) (fun h2 => ?_)
          · refine lv_iload_n hx hb dX2_drift_118 rfl (lv_at hl 1 rfl) ?_
            refine lv_iconst (v := zI 1) hx hb dX2_drift_119 (by decide +kernel) ?_
            refine g_cne (tgt := 140) hx hb dX2_drift_120 (by decide) (by omega) (fun h3 => ?_) (fun h3 => ?_)
            · refine lv_iload_n hx hb dX2_drift_140 rfl (lv_at hl 1 rfl) ?_
              refine lv_iconst (v := zI 2) hx hb dX2_drift_141 (by decide +kernel) ?_
              refine g_cne (tgt := 168) hx hb dX2_drift_142 (by decide) (by omega) (fun h4 => ?_) (fun h4 => ?_)
              · exfalso; omega
              · refine lv_aload_n hx hb dX2_drift_145 rfl (lv_at hl 4 rfl) ?_
                refine g_ci (va_runU (C := "java/util/LinkedList") (As := []) (rest := []) ⟨hx, hb, hml, hown, hts⟩ (metJ5_isEmpty (N := N) (by omega)) (va_cwU 0 hts (lw_U q3148 q3149 q3151 q3152 q95 q3153) rfl rfl rfl rfl (by decide +kernel) ⟨Nat.le_of_ble_eq_true rfl, Nat.le_of_ble_eq_true rfl⟩) (g_preV hG (g_recv hG (hG.at 0 rfl) (ci := 27) rfl)) rfl rfl hl.1 rfl (lv_room (Nat.le_of_ble_eq_true rfl)) dX2_drift_146 ⟨by show _ ≤ 40; omega, by show _ ≤ 170; omega⟩) hG (fun r_76 F_77 V_78 ws_ H locs hp hG => ?_)
                obtain ⟨rfl, rfl, rfl, rfl⟩ := hp
                have hG : gW X F V_50 ((ll, oB 27 [.int (zI mo), .int (zI (N.length : Int)), va_rf (hdO N), va_rf (tlO N)]) :: Z) s H locs := hG
                refine g_topz (y := 0) (by rw [decide_eq_false (by omega)]; rfl) ?_
                refine g_ne (tgt := 168) hx hb dX2_drift_149 (by decide) (by decide) (fun h9 => ?_) (fun h9 => ?_)
                · exfalso; omega
                · refine lv_aload_n hx hb dX2_drift_152 rfl (lv_at hl 4 rfl) ?_
                  refine lv_aload_n hx hb dX2_drift_153 rfl (lv_at hl 4 rfl) ?_
                  refine lv_iload hx hb dX2_drift_154 (lv_at hl 0 rfl) ?_
                  refine g_cr (va_runV (As := [.int (zI ((k1 : Nat) : Int))]) (rest := [.ref ll]) ⟨hx, hb, hml, hown, hts⟩ (metJ41_remove (i := k1) hN (by omega) (by omega)) (cwV 1 hts (lw_V q3162 q2583 q3776 q156 q2584) rfl rfl rfl (by decide +kernel) ⟨Nat.le_of_ble_eq_true rfl, Nat.le_of_ble_eq_true rfl⟩) (g_preV hG (g_recv hG (hG.at 0 rfl) (ci := 27) rfl)) rfl rfl hl.1 rfl (lv_room (Nat.le_of_ble_eq_true rfl)) dX2_drift_156 ⟨by show _ ≤ 40; omega, by show _ ≤ 170; omega⟩) hG (fun r_79 F_80 V_81 ws_ H locs hp hG => ?_)
                  obtain ⟨rfl, rfl, hN9, hv9, rfl⟩ := hp
                  have hG : gW X F V_81 ((ll, oB 27 [.int (zI (mo + 1)), .int (zI ((N.eraseIdx k1).length : Int)), va_rf (hdO (N.eraseIdx k1)), va_rf (tlO (N.eraseIdx k1))]) :: Z) s H locs := hG
                  have hlk := hT.2 k1 (by omega)
                  refine va_castE hx hb hown (hts _ q3159) (hlk.recv hG) dX2_drift_159 ?_
                  have hel := List.length_eraseIdx_of_lt (l := N) (i := k1) (by omega)
                  have hv8 := hv9
                  refine g_cv (va_runV (As := [.ref (nT N k1)]) (rest := []) ⟨hx, hb, hml, hown, hts⟩ (metJ41_addFirst hN9 (by omega)) (cwV 1 hts (lw_V q3163 q3164 q3165 q156 q3166) rfl rfl rfl (by decide +kernel) ⟨Nat.le_of_ble_eq_true rfl, Nat.le_of_ble_eq_true rfl⟩) (g_preV hG (g_recv hG (hG.at 0 rfl) (ci := 27) rfl)) rfl rfl hl.1 rfl (lv_room (Nat.le_of_ble_eq_true rfl)) dX2_drift_162 ⟨by show _ ≤ 40; omega, by show _ ≤ 170; omega⟩) hG (fun F_83 V_84 ws_ H locs hp hG => ?_)
                  obtain ⟨rfl, a9, hN8, hv7, rfl⟩ := hp
                  have hG : gW X F V_84 ((ll, oB 27 [.int (zI (mo + 1 + 1)), .int (zI ((insN (N.eraseIdx k1) 0 (B, a9, nT N k1)).length : Int)), va_rf (hdO (insN (N.eraseIdx k1) 0 (B, a9, nT N k1))), va_rf (tlO (insN (N.eraseIdx k1) 0 (B, a9, nT N k1)))]) :: Z) s H locs := hG
                  have hN := hN8
                  have hD := (hD.tr hv8.d).tr hv7.d
                  have hW : xWd X F V_84 4 (wSeedTo w vv2) wa rv rk st ra la ma := (hW.cg (fun r9 _ h9 => hv8 r9 (by omega))).cg (fun r9 _ h9 => hv7 r9 (by omega))
                  obtain ⟨tt, htt⟩ : ∃ x, x = t.getD k1 [] :: rmT t k1 := ⟨_, rfl⟩
                  have hT2 : llT X F (insN (N.eraseIdx k1) 0 (B, a9, nT N k1)) tt := by rw [htt, ← insT_0]; exact (hT.rem (i := k1) (by omega)).ins (Nat.zero_le _) hlk
                  refine lv_goto (tgt := 192) hx hb dX2_drift_165 (by decide) ?_
                  have hdf : dfR w = (tt, vv2) := by unfold dfR; rw [hA, ← ht, hkR, hV2, if_neg (by omega), if_neg (by omega), if_pos (by omega), htt]
                  have htt24 : (tt).length ≤ 24 := by have h9 := (dfR_ok (w := w) (hK.tx (by omega))).1; rw [hdf] at h9; exact h9
                  refine lv_aload_n hx hb dX2_drift_192 rfl (lv_at hl 2 rfl) ?_
                  refine lv_aload_n hx hb dX2_drift_193 rfl (lv_at hl 3 rfl) ?_
                  refine lv_aload_n hx hb dX2_drift_194 rfl (lv_at hl 4 rfl) ?_
                  refine g_cr (va_runS (As := [.ref ll]) (rest := [.ref (ra (wN w - 1)), .ref wa]) ⟨hx, hb, hml, hown, hts⟩ (metX0_rowOf_l hN hT2 htt24) (va_cwS 1 hts (lw_S q3172 q1289 q87 q1290) rfl rfl rfl (by decide +kernel) ⟨Nat.le_of_ble_eq_true rfl, Nat.le_of_ble_eq_true rfl⟩) (g_preS hG) rfl rfl hl.1 rfl (lv_room (Nat.le_of_ble_eq_true rfl)) dX2_drift_195 ⟨by show _ ≤ 40; omega, by show _ ≤ 170; omega⟩) hG (fun lt G3 V_85 ws_ H locs hp hG => ?_)
                  obtain ⟨hle_G3, rfl, htx3, rfl⟩ := hp
                  have hG : gW X G3 V_84 ((ll, oB 27 [.int (zI (mo + 1 + 1)), .int (zI ((insN (N.eraseIdx k1) 0 (B, a9, nT N k1)).length : Int)), va_rf (hdO (insN (N.eraseIdx k1) 0 (B, a9, nT N k1))), va_rf (tlO (insN (N.eraseIdx k1) 0 (B, a9, nT N k1)))]) :: Z) s H locs := hG
                  have hw0 := hW.1
                  have hw0 : V_84 4 = some (wa, oB 2 [.int (zI (wN w : Int)), .int (zI (wM w : Int)), .int (zI (wRun w : Int)), .int (zI (wNeed w : Int)), .int (zI (wMar w : Int)), .int vv2, .ref rv, .ref rk, .ref st]) := hw0
                  refine g_ci (va_runV (As := [.ref (ra (wN w - 1)), .ref lt]) (rest := []) ⟨hx, hb, hml, hown, hts⟩ (metX2_add (w := wSeedTo w vv2) (fo := some (wN w - 1)) (t := tt) (hW.mono hle_G3) (hKS vv2) (by show wN w < 16; omega) (hfo9 vv2) htx3) (cwV 2 hts (lw_V q3173 q1711 q1712 q100 q1713) rfl rfl rfl (by decide +kernel) ⟨Nat.le_of_ble_eq_true rfl, Nat.le_of_ble_eq_true rfl⟩) (g_preV hG (g_recv hG (hG.vo hw0) (ci := 2) rfl)) rfl rfl hl.1 rfl (lv_room (Nat.le_of_ble_eq_true rfl)) dX2_drift_198 ⟨by show _ ≤ 40; omega, by show _ ≤ 170; omega⟩) hG (fun r_86 G4 V_87 ws_ H locs hp hG => ?_)
                  obtain ⟨hle_G4, rfl, ra9, la9, hW9, hB9, rfl⟩ := hp
                  have hG : gW X G4 V_87 ((ll, oB 27 [.int (zI (mo + 1 + 1)), .int (zI ((insN (N.eraseIdx k1) 0 (B, a9, nT N k1)).length : Int)), va_rf (hdO (insN (N.eraseIdx k1) 0 (B, a9, nT N k1))), va_rf (tlO (insN (N.eraseIdx k1) 0 (B, a9, nT N k1)))]) :: Z) s H locs := hG
                  have hG : gW X G4 V_87 (Z) s _ _ := hG.drop 0 rfl rfl
                  refine lv_pop hx hb dX2_drift_201 rfl ?_
                  exact g_vret hx hb hr hlocks hG (⟨(hle_G3.tr hle_G4), ra9, la9, by unfold wDrift; rw [hdf]; exact hW9, hD.tr hB9.d, rfl⟩) ⟨by show _ ≤ 40; omega, by show _ ≤ 170; omega⟩ dX2_drift_202
            · exfalso; omega
          · exfalso; omega
        · refine lv_iload_n hx hb dX2_drift_84 rfl (lv_at hl 1 rfl) ?_
          refine g_ne (tgt := 118) hx hb dX2_drift_85 (by decide) (by omega) (fun h2 => ?_) (fun h2 => ?_)
          · refine lv_iload_n hx hb dX2_drift_118 rfl (lv_at hl 1 rfl) ?_
            refine lv_iconst (v := zI 1) hx hb dX2_drift_119 (by decide +kernel) ?_
            refine g_cne (tgt := 140) hx hb dX2_drift_120 (by decide) (by omega) (fun h3 => ?_) (fun h3 => ?_)
            · refine lv_iload_n hx hb dX2_drift_140 rfl (lv_at hl 1 rfl) ?_
              refine lv_iconst (v := zI 2) hx hb dX2_drift_141 (by decide +kernel) ?_
              refine g_cne (tgt := 168) hx hb dX2_drift_142 (by decide) (by omega) (fun h4 => ?_) (fun h4 => ?_)
              · refine lv_iload_n hx hb dX2_drift_168 rfl (lv_at hl 1 rfl) ?_
                refine lv_iconst (v := zI 3) hx hb dX2_drift_169 (by decide +kernel) ?_
                refine g_cne (tgt := 192) hx hb dX2_drift_170 (by decide) (by omega) (fun h5 => ?_) (fun h5 => ?_)
                · exfalso; omega
                · refine lv_aload_n hx hb dX2_drift_173 rfl (lv_at hl 4 rfl) ?_
                  refine g_ci (va_runU (C := "java/util/LinkedList") (As := []) (rest := []) ⟨hx, hb, hml, hown, hts⟩ (metJ5_isEmpty (N := N) (by omega)) (va_cwU 0 hts (lw_U q3148 q3149 q3151 q3152 q95 q3153) rfl rfl rfl rfl (by decide +kernel) ⟨Nat.le_of_ble_eq_true rfl, Nat.le_of_ble_eq_true rfl⟩) (g_preV hG (g_recv hG (hG.at 0 rfl) (ci := 27) rfl)) rfl rfl hl.1 rfl (lv_room (Nat.le_of_ble_eq_true rfl)) dX2_drift_174 ⟨by show _ ≤ 40; omega, by show _ ≤ 170; omega⟩) hG (fun r_88 F_89 V_90 ws_ H locs hp hG => ?_)
                  obtain ⟨rfl, rfl, rfl, rfl⟩ := hp
                  have hG : gW X F V_50 ((ll, oB 27 [.int (zI mo), .int (zI (N.length : Int)), va_rf (hdO N), va_rf (tlO N)]) :: Z) s H locs := hG
                  refine g_topz (y := 0) (by rw [decide_eq_false (by omega)]; rfl) ?_
                  refine g_ne (tgt := 192) hx hb dX2_drift_177 (by decide) (by decide) (fun h9 => ?_) (fun h9 => ?_)
                  · exfalso; omega
                  · refine lv_aload_n hx hb dX2_drift_180 rfl (lv_at hl 4 rfl) ?_
                    refine lv_iload hx hb dX2_drift_181 (lv_at hl 0 rfl) ?_
                    refine lv_bipush (v := zI 122) hx hb dX2_drift_183 (by decide +kernel) ?_
                    refine g_topz (y := ((122 : Nat) : Int)) rfl ?_
                    refine g_cr (va_runS (As := [.int (zI ((122 : Nat) : Int))]) (rest := [.int (zI ((k1 : Nat) : Int)), .ref ll]) ⟨hx, hb, hml, hown, hts⟩ (metX2_ofLetter (ch := 122) (by decide)) (va_cwS 1 hts (lw_S q3156 q3157 q100 q3158) rfl rfl rfl (by decide +kernel) ⟨Nat.le_of_ble_eq_true rfl, Nat.le_of_ble_eq_true rfl⟩) (g_preS hG) rfl rfl hl.1 rfl (lv_room (Nat.le_of_ble_eq_true rfl)) dX2_drift_185 ⟨by show _ ≤ 40; omega, by show _ ≤ 170; omega⟩) hG (fun ln G2 V_91 ws_ H locs hp hG => ?_)
                    obtain ⟨hle_G2, rfl, hln9, rfl⟩ := hp
                    have hG : gW X G2 V_50 ((ll, oB 27 [.int (zI mo), .int (zI (N.length : Int)), va_rf (hdO N), va_rf (tlO N)]) :: Z) s H locs := hG
                    refine g_cr (va_runV (As := [.int (zI ((k1 : Nat) : Int)), .ref ln]) (rest := []) ⟨hx, hb, hml, hown, hts⟩ (metJ41_set (i := k1) hN (by omega) (by omega)) (cwV 2 hts (lw_V q3171 q2783 q3777 q156 q2785) rfl rfl rfl (by decide +kernel) ⟨Nat.le_of_ble_eq_true rfl, Nat.le_of_ble_eq_true rfl⟩) (g_preV hG (g_recv hG (hG.at 0 rfl) (ci := 27) rfl)) rfl rfl hl.1 rfl (lv_room (Nat.le_of_ble_eq_true rfl)) dX2_drift_188 ⟨by show _ ≤ 40; omega, by show _ ≤ 170; omega⟩) hG (fun r_92 F_93 V_94 ws_ H locs hp hG => ?_)
                    obtain ⟨rfl, rfl, hN9, hv9, rfl⟩ := hp
                    have hG : gW X G2 V_94 ((ll, oB 27 [.int (zI mo), .int (zI ((N.set k1 (nR N k1, nA N k1, ln)).length : Int)), va_rf (hdO (N.set k1 (nR N k1, nA N k1, ln))), va_rf (tlO (N.set k1 (nR N k1, nA N k1, ln)))]) :: Z) s H locs := hG
                    have hN := hN9
                    have hD := hD.tr hv9.d
                    have hW : xWd X G2 V_94 4 (wSeedTo w vv2) wa rv rk st ra la ma := (hW.mono hle_G2).cg (fun r9 _ h9 => hv9 r9 (by omega))
                    obtain ⟨tt, htt⟩ : ∃ x, x = t.set k1 [122] := ⟨_, rfl⟩
                    have hT2 : llT X G2 (N.set k1 (nR N k1, nA N k1, ln)) tt := by rw [htt]; exact (hT.mono hle_G2).put (by omega) hln9
                    refine lv_pop hx hb dX2_drift_191 rfl ?_
                    have hdf : dfR w = (tt, vv2) := by unfold dfR; rw [hA, ← ht, hkR, hV2, if_neg (by omega), if_neg (by omega), if_neg (by omega), if_pos (by omega), htt]
                    have htt24 : (tt).length ≤ 24 := by have h9 := (dfR_ok (w := w) (hK.tx (by omega))).1; rw [hdf] at h9; exact h9
                    refine lv_aload_n hx hb dX2_drift_192 rfl (lv_at hl 2 rfl) ?_
                    refine lv_aload_n hx hb dX2_drift_193 rfl (lv_at hl 3 rfl) ?_
                    refine lv_aload_n hx hb dX2_drift_194 rfl (lv_at hl 4 rfl) ?_
                    refine g_cr (va_runS (As := [.ref ll]) (rest := [.ref (ra (wN w - 1)), .ref wa]) ⟨hx, hb, hml, hown, hts⟩ (metX0_rowOf_l hN hT2 htt24) (va_cwS 1 hts (lw_S q3172 q1289 q87 q1290) rfl rfl rfl (by decide +kernel) ⟨Nat.le_of_ble_eq_true rfl, Nat.le_of_ble_eq_true rfl⟩) (g_preS hG) rfl rfl hl.1 rfl (lv_room (Nat.le_of_ble_eq_true rfl)) dX2_drift_195 ⟨by show _ ≤ 40; omega, by show _ ≤ 170; omega⟩) hG (fun lt G3 V_95 ws_ H locs hp hG => ?_)
                    obtain ⟨hle_G3, rfl, htx3, rfl⟩ := hp
                    have hG : gW X G3 V_94 ((ll, oB 27 [.int (zI mo), .int (zI ((N.set k1 (nR N k1, nA N k1, ln)).length : Int)), va_rf (hdO (N.set k1 (nR N k1, nA N k1, ln))), va_rf (tlO (N.set k1 (nR N k1, nA N k1, ln)))]) :: Z) s H locs := hG
                    have hw0 := hW.1
                    have hw0 : V_94 4 = some (wa, oB 2 [.int (zI (wN w : Int)), .int (zI (wM w : Int)), .int (zI (wRun w : Int)), .int (zI (wNeed w : Int)), .int (zI (wMar w : Int)), .int vv2, .ref rv, .ref rk, .ref st]) := hw0
                    refine g_ci (va_runV (As := [.ref (ra (wN w - 1)), .ref lt]) (rest := []) ⟨hx, hb, hml, hown, hts⟩ (metX2_add (w := wSeedTo w vv2) (fo := some (wN w - 1)) (t := tt) (hW.mono hle_G3) (hKS vv2) (by show wN w < 16; omega) (hfo9 vv2) htx3) (cwV 2 hts (lw_V q3173 q1711 q1712 q100 q1713) rfl rfl rfl (by decide +kernel) ⟨Nat.le_of_ble_eq_true rfl, Nat.le_of_ble_eq_true rfl⟩) (g_preV hG (g_recv hG (hG.vo hw0) (ci := 2) rfl)) rfl rfl hl.1 rfl (lv_room (Nat.le_of_ble_eq_true rfl)) dX2_drift_198 ⟨by show _ ≤ 40; omega, by show _ ≤ 170; omega⟩) hG (fun r_96 G4 V_97 ws_ H locs hp hG => ?_)
                    obtain ⟨hle_G4, rfl, ra9, la9, hW9, hB9, rfl⟩ := hp
                    have hG : gW X G4 V_97 ((ll, oB 27 [.int (zI mo), .int (zI ((N.set k1 (nR N k1, nA N k1, ln)).length : Int)), va_rf (hdO (N.set k1 (nR N k1, nA N k1, ln))), va_rf (tlO (N.set k1 (nR N k1, nA N k1, ln)))]) :: Z) s H locs := hG
                    have hG : gW X G4 V_97 (Z) s _ _ := hG.drop 0 rfl rfl
                    refine lv_pop hx hb dX2_drift_201 rfl ?_
                    exact g_vret hx hb hr hlocks hG (⟨((hle_G2.tr hle_G3).tr hle_G4), ra9, la9, by unfold wDrift; rw [hdf]; exact hW9, hD.tr hB9.d, rfl⟩) ⟨by show _ ≤ 40; omega, by show _ ≤ 170; omega⟩ dX2_drift_202
              · exfalso; omega
            · exfalso; omega
          · exfalso; omega
      · exfalso; omega
  · refine lv_aload_n hx hb dX2_drift_39 rfl (lv_at hl 3 rfl) ?_
    refine lv_iload hx hb dX2_drift_40 (lv_at hl 5 rfl) ?_
    obtain ⟨lb, hlb1, hlb2⟩ := hgt3 j (t.getD j []) (gD_some (by omega))
    refine g_aald hx hb hG 6 rfl rfl (hG.fz hgt1) j ⟨rfl, by omega, by omega⟩ (v := .ref lb) (congrArg va_rf hlb1) dX2_drift_42 ?_
    refine lv_astore (lv' := [(6, .ref lb), (0, .ref wa), (1, .ref (ra (wN w - 1))), (2, .ref ll), (3, .ref (la (wN w - 1))), (4, .int (zI (t.length : Int))), (5, .int (zI (j : Int)))]) hx hb dX2_drift_43 hl (by decide) rfl (fun ls hl => ?_)
    refine lv_aload_n hx hb dX2_drift_45 rfl (lv_at hl 3 rfl) ?_
    refine lv_aload hx hb dX2_drift_46 (lv_at hl 0 rfl) ?_
    refine g_cv (va_runV (As := [.ref lb]) (rest := []) ⟨hx, hb, hml, hown, hts⟩ (metJ41_addLast hN (by omega)) (cwV 1 hts (lw_V q3142 q2535 q2536 q156 q2537) rfl rfl rfl (by decide +kernel) ⟨Nat.le_of_ble_eq_true rfl, Nat.le_of_ble_eq_true rfl⟩) (g_preV hG (g_recv hG (hG.at 0 rfl) (ci := 27) rfl)) rfl rfl hl.1 rfl (lv_room (Nat.le_of_ble_eq_true rfl)) dX2_drift_48 ⟨by show _ ≤ 40; omega, by show _ ≤ 170; omega⟩) hG (fun F_99 V_100 ws_ H locs hp hG => ?_)
    obtain ⟨rfl, a9, hN9, hv9, rfl⟩ := hp
    have hG : gW X F V_100 ((ll, oB 27 [.int (zI (mo + 1)), .int (zI ((insN N N.length (B, a9, lb)).length : Int)), va_rf (hdO (insN N N.length (B, a9, lb))), va_rf (tlO (insN N N.length (B, a9, lb)))]) :: Z) s H locs := hG
    have hA9 := llT_app (B := B) (a := a9) hNj hlj hlb2
    refine lv_iinc (v := zI ((j : Int) + 1 : Int)) (lv' := [(5, .int (zI ((j : Int) + 1 : Int))), (6, .ref lb), (0, .ref wa), (1, .ref (ra (wN w - 1))), (2, .ref ll), (3, .ref (la (wN w - 1))), (4, .int (zI (t.length : Int)))]) hx hb dX2_drift_51 hl (k := 6) rfl ((zI_add _ _).trans (congrArg zI (by omega))) (by decide) rfl (fun ls hl => ?_)
    refine lv_goto (tgt := 32) hx hb dX2_drift_54 (by decide) ?_
    have hl : lv_has ls 7 [(5, .int (zI ((j + 1 : Nat) : Int))), (6, .ref lb), (0, .ref wa), (1, .ref (ra (wN w - 1))), (2, .ref ll), (3, .ref (la (wN w - 1))), (4, .int (zI (t.length : Int)))] := by exact hl
    exact ihA (t.length - (j + 1)) (by omega) H locs ls _ _ (by omega) ⟨(j + 1), _, _, _, _, ⟨by omega, rfl, hN9, hA9.1, hA9.2, hvU.tr hv9⟩, hG, (lv_sub hl [2, 3, 4, 5, 6, 0] rfl)⟩

