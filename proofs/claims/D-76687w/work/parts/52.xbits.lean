set_option maxRecDepth 100000
theorem zI_lo (n : Nat) : (lN n).toInt32 = nI n := by rw [show lN n = zL (n : Int) from Int64.ofInt_eq_ofNat.symm, zL_low, zI_nat]
theorem bt_nI (n i : Nat) (hi : i < 32) : bt (nI n) i = n.testBit i := by
  show (BitVec.ofNat 32 n).getLsbD i = _
  rw [BitVec.getLsbD_ofNat, decide_eq_true hi, Bool.true_and]
/-- the lowest bit of n is k -/
def lowB (n k : Nat) : Prop := n % 2 ^ (k + 1) = 2 ^ k
theorem lowB.pos {n k : Nat} (h : lowB n k) : 0 < n := by
  rcases Nat.eq_zero_or_pos n with q | q
  · subst q; have h : 0 % 2 ^ (k + 1) = 2 ^ k := h; rw [Nat.zero_mod] at h; have := Nat.two_pow_pos k; omega
  · exact q
theorem lowB.split {n k : Nat} (h : lowB n k) : n = 2 ^ (k + 1) * (n / 2 ^ (k + 1)) + 2 ^ k := by
  have := Nat.div_add_mod n (2 ^ (k + 1))
  have h : n % 2 ^ (k + 1) = 2 ^ k := h
  omega
theorem tz_and {n k : Nat} (h : lowB n k) (hk : k < 32) : (nI n ^^^ zI (-1)) &&& (nI n - zI 1) = zI ((2 ^ k - 1 : Nat) : Int) := by
  have h1 : nI n - zI 1 = nI (n - 1) := by
    have := h.pos
    rw [show zI 1 = nI 1 from by decide +kernel, ← zI_nat, ← zI_nat, zI_sub, ← zI_nat]
    congr 1; omega
  rw [h1, zI_nat]
  refine b_ext fun i hi => ?_
  have hp : 2 ^ k < 2 ^ (k + 1) := Nat.pow_lt_pow_right (by decide) (Nat.lt_succ_self k)
  have hp0 := Nat.two_pow_pos k
  rw [b_and, b_xor, show bt (zI (-1)) i = true from b_m1 i hi, bt_nI _ _ hi, bt_nI _ _ hi, bt_nI _ _ hi, Nat.testBit_two_pow_sub_one]
  rw [show n - 1 = 2 ^ (k + 1) * (n / 2 ^ (k + 1)) + (2 ^ k - 1) from by have := h.split; omega, Nat.testBit_two_pow_mul_add _ (by omega)]
  rw [show n.testBit i = (2 ^ (k + 1) * (n / 2 ^ (k + 1)) + 2 ^ k).testBit i from congrArg (fun z => z.testBit i) h.split, Nat.testBit_two_pow_mul_add _ hp]
  by_cases hik : i < k + 1
  · rw [if_pos hik, if_pos hik, Nat.testBit_two_pow, Nat.testBit_two_pow_sub_one]
    by_cases h2 : i < k
    · rw [decide_eq_true h2, decide_eq_false (by omega)]; rfl
    · rw [decide_eq_false h2, Bool.and_false]
  · rw [if_neg hik, if_neg hik, decide_eq_false (by omega)]
    cases (n / 2 ^ (k + 1)).testBit (i - (k + 1)) <;> rfl
theorem lowB_nI {n k : Nat} (h : lowB n k) (hk : k < 32) : ¬ nI n = 0 := by
  intro q
  have hp0 := Nat.two_pow_pos k
  have e : bt (nI n) k = true := by
    rw [bt_nI _ _ hk, show n.testBit k = (2 ^ (k + 1) * (n / 2 ^ (k + 1)) + 2 ^ k).testBit k from congrArg (fun z => z.testBit k) h.split, Nat.testBit_two_pow_mul_add _ (Nat.pow_lt_pow_right (by decide) (Nat.lt_succ_self k)), if_pos (Nat.lt_succ_self k), Nat.testBit_two_pow, decide_eq_true rfl]
  rw [q, b_0] at e
  cases e
set_option maxHeartbeats 4000000 in
theorem metJ1_numberOfTrailingZeros {l : Launch} {X : gX} {F : gF} {V : gV} {Z : va_W} {n k : Nat} (hlow : lowB n k) (hk : k < 32) : Met l yJ1_numberOfTrailingZeros (ws_ yJ1_numberOfTrailingZeros cJ1_numberOfTrailingZeros 2 (some FieldType.int)) ({ frames := 0, cells := 0, slots := 0, locals := 0 }) (gP X F V (Z) [.int (nI n)]) (gQi X (fun u G U ws => u = zI (k : Int) ∧ F = G ∧ V = U ∧ Z = ws)) 0 0 (gA X) := by
  refine Met.g (by decide) (Nat.le_of_ble_eq_true rfl) ?_
  intro p e s m below meth c ls hx hb hr hts hown hlocks hml hin hG hl
  have hl : lv_has ls 2 [(0, .int (nI n))] := hl
  refine lv_iload_n hx hb dJ1_numberOfTrailingZeros_0 rfl (lv_at hl 0 rfl) ?_
  refine lv_iconst (v := zI (-1)) hx hb dJ1_numberOfTrailingZeros_1 (by decide +kernel) ?_
  refine lv_ixor hx hb dJ1_numberOfTrailingZeros_2 ?_
  refine lv_iload_n hx hb dJ1_numberOfTrailingZeros_3 rfl (lv_at hl 0 rfl) ?_
  refine lv_iconst (v := zI 1) hx hb dJ1_numberOfTrailingZeros_4 (by decide +kernel) ?_
  refine lv_isub hx hb dJ1_numberOfTrailingZeros_5 ?_
  refine lv_iand hx hb dJ1_numberOfTrailingZeros_6 ?_
  refine lv_topx (zI ((2 ^ k - 1 : Nat) : Int)) (tz_and hlow hk) ?_
  rcases (show k = 0 ∨ k = 1 ∨ k = 2 ∨ k = 3 ∨ k = 4 ∨ k = 5 ∨ k = 6 ∨ k = 7 ∨ k = 8 ∨ k = 9 ∨ k = 10 ∨ k = 11 ∨ k = 12 ∨ k = 13 ∨ k = 14 ∨ k = 15 ∨ k = 16 ∨ k = 17 ∨ k = 18 ∨ k = 19 ∨ k = 20 ∨ k = 21 ∨ k = 22 ∨ k = 23 ∨ k = 24 ∨ k = 25 ∨ k = 26 ∨ k = 27 ∨ k = 28 ∨ k = 29 ∨ k = 30 ∨ k = 31 by omega) with hk9 | hk9 | hk9 | hk9 | hk9 | hk9 | hk9 | hk9 | hk9 | hk9 | hk9 | hk9 | hk9 | hk9 | hk9 | hk9 | hk9 | hk9 | hk9 | hk9 | hk9 | hk9 | hk9 | hk9 | hk9 | hk9 | hk9 | hk9 | hk9 | hk9 | hk9 | hk9
  · subst hk9
    refine g_topz (y := 0) (by decide) ?_
    refine lv_istore_n (lv' := [(0, .int (zI 0))]) hx hb dJ1_numberOfTrailingZeros_7 rfl hl (by decide) rfl (fun ls hl => ?_)
    refine lv_iload_n hx hb dJ1_numberOfTrailingZeros_8 rfl (lv_at hl 0 rfl) ?_
    refine g_gt (tgt := 17) hx hb dJ1_numberOfTrailingZeros_9 (by decide) (by decide) (fun hq => ?_) (fun hq => ?_)
    · exfalso; omega
    · refine lv_iload_n hx hb dJ1_numberOfTrailingZeros_12 rfl (lv_at hl 0 rfl) ?_
      refine lv_bipush (v := zI 32) hx hb dJ1_numberOfTrailingZeros_13 (by decide +kernel) ?_
      refine lv_iand hx hb dJ1_numberOfTrailingZeros_15 ?_
      refine lv_topx (zI 0) (by decide +kernel) ?_
      exact g_iret hx hb hr hlocks hG (⟨rfl, rfl, rfl, rfl⟩) ⟨Nat.le_of_ble_eq_true rfl, Nat.le_of_ble_eq_true rfl⟩ dJ1_numberOfTrailingZeros_16
  · subst hk9
    refine g_topz (y := 1) (by decide) ?_
    refine lv_istore_n (lv' := [(0, .int (zI 1))]) hx hb dJ1_numberOfTrailingZeros_7 rfl hl (by decide) rfl (fun ls hl => ?_)
    refine lv_iload_n hx hb dJ1_numberOfTrailingZeros_8 rfl (lv_at hl 0 rfl) ?_
    refine g_gt (tgt := 17) hx hb dJ1_numberOfTrailingZeros_9 (by decide) (by decide) (fun hq => ?_) (fun hq => ?_)
    · refine lv_iconst (v := zI 1) hx hb dJ1_numberOfTrailingZeros_17 (by decide +kernel) ?_
      refine lv_istore_n (lv' := [(1, .int (zI 1)), (0, .int (zI 1))]) hx hb dJ1_numberOfTrailingZeros_18 rfl hl (by decide) rfl (fun ls hl => ?_)
      refine lv_iload_n hx hb dJ1_numberOfTrailingZeros_19 rfl (lv_at hl 1 rfl) ?_
      refine lv_ldcw (v := 65536) hx hb hown (hts _ q1896) dJ1_numberOfTrailingZeros_20 ?_
      refine lv_topx (zI 65536) (by decide +kernel) ?_
      refine g_cle (tgt := 34) hx hb dJ1_numberOfTrailingZeros_23 (by decide) (by omega) (fun hq => ?_) (fun hq => ?_)
      · refine lv_iload_n hx hb dJ1_numberOfTrailingZeros_34 rfl (lv_at hl 1 rfl) ?_
        refine lv_sipush (v := zI 256) hx hb dJ1_numberOfTrailingZeros_35 (by decide +kernel) ?_
        refine g_cle (tgt := 49) hx hb dJ1_numberOfTrailingZeros_38 (by decide) (by omega) (fun hq => ?_) (fun hq => ?_)
        · refine lv_iload_n hx hb dJ1_numberOfTrailingZeros_49 rfl (lv_at hl 1 rfl) ?_
          refine lv_bipush (v := zI 16) hx hb dJ1_numberOfTrailingZeros_50 (by decide +kernel) ?_
          refine g_cle (tgt := 62) hx hb dJ1_numberOfTrailingZeros_52 (by decide) (by omega) (fun hq => ?_) (fun hq => ?_)
          · refine lv_iload_n hx hb dJ1_numberOfTrailingZeros_62 rfl (lv_at hl 1 rfl) ?_
            refine lv_iconst (v := zI 4) hx hb dJ1_numberOfTrailingZeros_63 (by decide +kernel) ?_
            refine g_cle (tgt := 74) hx hb dJ1_numberOfTrailingZeros_64 (by decide) (by omega) (fun hq => ?_) (fun hq => ?_)
            · refine lv_iload_n hx hb dJ1_numberOfTrailingZeros_74 rfl (lv_at hl 0 rfl) ?_
              refine lv_iload_n hx hb dJ1_numberOfTrailingZeros_75 rfl (lv_at hl 1 rfl) ?_
              refine lv_iconst (v := zI 1) hx hb dJ1_numberOfTrailingZeros_76 (by decide +kernel) ?_
              refine lv_iushr (v := ((zI 1).toUInt32 >>> ((zI 1).toUInt32 &&& Int32.toUInt32 31)).toInt32) hx hb dJ1_numberOfTrailingZeros_77 rfl ?_
              refine lv_topx (zI 0) (by decide +kernel) ?_
              refine g_iadd hx hb dJ1_numberOfTrailingZeros_78 ?_
              refine g_topz (y := 1) (by omega) ?_
              exact g_iret hx hb hr hlocks hG (⟨rfl, rfl, rfl, rfl⟩) ⟨Nat.le_of_ble_eq_true rfl, Nat.le_of_ble_eq_true rfl⟩ dJ1_numberOfTrailingZeros_79
            · exfalso; omega
          · exfalso; omega
        · exfalso; omega
      · exfalso; omega
    · exfalso; omega
  · subst hk9
    refine g_topz (y := 3) (by decide) ?_
    refine lv_istore_n (lv' := [(0, .int (zI 3))]) hx hb dJ1_numberOfTrailingZeros_7 rfl hl (by decide) rfl (fun ls hl => ?_)
    refine lv_iload_n hx hb dJ1_numberOfTrailingZeros_8 rfl (lv_at hl 0 rfl) ?_
    refine g_gt (tgt := 17) hx hb dJ1_numberOfTrailingZeros_9 (by decide) (by decide) (fun hq => ?_) (fun hq => ?_)
    · refine lv_iconst (v := zI 1) hx hb dJ1_numberOfTrailingZeros_17 (by decide +kernel) ?_
      refine lv_istore_n (lv' := [(1, .int (zI 1)), (0, .int (zI 3))]) hx hb dJ1_numberOfTrailingZeros_18 rfl hl (by decide) rfl (fun ls hl => ?_)
      refine lv_iload_n hx hb dJ1_numberOfTrailingZeros_19 rfl (lv_at hl 1 rfl) ?_
      refine lv_ldcw (v := 65536) hx hb hown (hts _ q1896) dJ1_numberOfTrailingZeros_20 ?_
      refine lv_topx (zI 65536) (by decide +kernel) ?_
      refine g_cle (tgt := 34) hx hb dJ1_numberOfTrailingZeros_23 (by decide) (by omega) (fun hq => ?_) (fun hq => ?_)
      · refine lv_iload_n hx hb dJ1_numberOfTrailingZeros_34 rfl (lv_at hl 1 rfl) ?_
        refine lv_sipush (v := zI 256) hx hb dJ1_numberOfTrailingZeros_35 (by decide +kernel) ?_
        refine g_cle (tgt := 49) hx hb dJ1_numberOfTrailingZeros_38 (by decide) (by omega) (fun hq => ?_) (fun hq => ?_)
        · refine lv_iload_n hx hb dJ1_numberOfTrailingZeros_49 rfl (lv_at hl 1 rfl) ?_
          refine lv_bipush (v := zI 16) hx hb dJ1_numberOfTrailingZeros_50 (by decide +kernel) ?_
          refine g_cle (tgt := 62) hx hb dJ1_numberOfTrailingZeros_52 (by decide) (by omega) (fun hq => ?_) (fun hq => ?_)
          · refine lv_iload_n hx hb dJ1_numberOfTrailingZeros_62 rfl (lv_at hl 1 rfl) ?_
            refine lv_iconst (v := zI 4) hx hb dJ1_numberOfTrailingZeros_63 (by decide +kernel) ?_
            refine g_cle (tgt := 74) hx hb dJ1_numberOfTrailingZeros_64 (by decide) (by omega) (fun hq => ?_) (fun hq => ?_)
            · refine lv_iload_n hx hb dJ1_numberOfTrailingZeros_74 rfl (lv_at hl 0 rfl) ?_
              refine lv_iload_n hx hb dJ1_numberOfTrailingZeros_75 rfl (lv_at hl 1 rfl) ?_
              refine lv_iconst (v := zI 1) hx hb dJ1_numberOfTrailingZeros_76 (by decide +kernel) ?_
              refine lv_iushr (v := ((zI 3).toUInt32 >>> ((zI 1).toUInt32 &&& Int32.toUInt32 31)).toInt32) hx hb dJ1_numberOfTrailingZeros_77 rfl ?_
              refine lv_topx (zI 1) (by decide +kernel) ?_
              refine g_iadd hx hb dJ1_numberOfTrailingZeros_78 ?_
              refine g_topz (y := 2) (by omega) ?_
              exact g_iret hx hb hr hlocks hG (⟨rfl, rfl, rfl, rfl⟩) ⟨Nat.le_of_ble_eq_true rfl, Nat.le_of_ble_eq_true rfl⟩ dJ1_numberOfTrailingZeros_79
            · exfalso; omega
          · exfalso; omega
        · exfalso; omega
      · exfalso; omega
    · exfalso; omega
  · subst hk9
    refine g_topz (y := 7) (by decide) ?_
    refine lv_istore_n (lv' := [(0, .int (zI 7))]) hx hb dJ1_numberOfTrailingZeros_7 rfl hl (by decide) rfl (fun ls hl => ?_)
    refine lv_iload_n hx hb dJ1_numberOfTrailingZeros_8 rfl (lv_at hl 0 rfl) ?_
    refine g_gt (tgt := 17) hx hb dJ1_numberOfTrailingZeros_9 (by decide) (by decide) (fun hq => ?_) (fun hq => ?_)
    · refine lv_iconst (v := zI 1) hx hb dJ1_numberOfTrailingZeros_17 (by decide +kernel) ?_
      refine lv_istore_n (lv' := [(1, .int (zI 1)), (0, .int (zI 7))]) hx hb dJ1_numberOfTrailingZeros_18 rfl hl (by decide) rfl (fun ls hl => ?_)
      refine lv_iload_n hx hb dJ1_numberOfTrailingZeros_19 rfl (lv_at hl 1 rfl) ?_
      refine lv_ldcw (v := 65536) hx hb hown (hts _ q1896) dJ1_numberOfTrailingZeros_20 ?_
      refine lv_topx (zI 65536) (by decide +kernel) ?_
      refine g_cle (tgt := 34) hx hb dJ1_numberOfTrailingZeros_23 (by decide) (by omega) (fun hq => ?_) (fun hq => ?_)
      · refine lv_iload_n hx hb dJ1_numberOfTrailingZeros_34 rfl (lv_at hl 1 rfl) ?_
        refine lv_sipush (v := zI 256) hx hb dJ1_numberOfTrailingZeros_35 (by decide +kernel) ?_
        refine g_cle (tgt := 49) hx hb dJ1_numberOfTrailingZeros_38 (by decide) (by omega) (fun hq => ?_) (fun hq => ?_)
        · refine lv_iload_n hx hb dJ1_numberOfTrailingZeros_49 rfl (lv_at hl 1 rfl) ?_
          refine lv_bipush (v := zI 16) hx hb dJ1_numberOfTrailingZeros_50 (by decide +kernel) ?_
          refine g_cle (tgt := 62) hx hb dJ1_numberOfTrailingZeros_52 (by decide) (by omega) (fun hq => ?_) (fun hq => ?_)
          · refine lv_iload_n hx hb dJ1_numberOfTrailingZeros_62 rfl (lv_at hl 1 rfl) ?_
            refine lv_iconst (v := zI 4) hx hb dJ1_numberOfTrailingZeros_63 (by decide +kernel) ?_
            refine g_cle (tgt := 74) hx hb dJ1_numberOfTrailingZeros_64 (by decide) (by omega) (fun hq => ?_) (fun hq => ?_)
            · exfalso; omega
            · refine lv_iinc (v := zI 3) (lv' := [(1, .int (zI 3)), (0, .int (zI 7))]) hx hb dJ1_numberOfTrailingZeros_67 hl (k := 0) rfl ((zI_add _ _).trans (congrArg zI (by omega))) (by decide) rfl (fun ls hl => ?_)
              refine lv_iload_n hx hb dJ1_numberOfTrailingZeros_70 rfl (lv_at hl 1 rfl) ?_
              refine lv_iconst (v := zI 2) hx hb dJ1_numberOfTrailingZeros_71 (by decide +kernel) ?_
              refine lv_iushr (v := ((zI 7).toUInt32 >>> ((zI 2).toUInt32 &&& Int32.toUInt32 31)).toInt32) hx hb dJ1_numberOfTrailingZeros_72 rfl ?_
              refine lv_topx (zI 1) (by decide +kernel) ?_
              refine lv_istore_n (lv' := [(0, .int (zI 1)), (1, .int (zI 3))]) hx hb dJ1_numberOfTrailingZeros_73 rfl hl (by decide) rfl (fun ls hl => ?_)
              refine lv_iload_n hx hb dJ1_numberOfTrailingZeros_74 rfl (lv_at hl 1 rfl) ?_
              refine lv_iload_n hx hb dJ1_numberOfTrailingZeros_75 rfl (lv_at hl 0 rfl) ?_
              refine lv_iconst (v := zI 1) hx hb dJ1_numberOfTrailingZeros_76 (by decide +kernel) ?_
              refine lv_iushr (v := ((zI 1).toUInt32 >>> ((zI 1).toUInt32 &&& Int32.toUInt32 31)).toInt32) hx hb dJ1_numberOfTrailingZeros_77 rfl ?_
              refine lv_topx (zI 0) (by decide +kernel) ?_
              refine g_iadd hx hb dJ1_numberOfTrailingZeros_78 ?_
              refine g_topz (y := 3) (by omega) ?_
              exact g_iret hx hb hr hlocks hG (⟨rfl, rfl, rfl, rfl⟩) ⟨Nat.le_of_ble_eq_true rfl, Nat.le_of_ble_eq_true rfl⟩ dJ1_numberOfTrailingZeros_79
          · exfalso; omega
        · exfalso; omega
      · exfalso; omega
    · exfalso; omega
  · subst hk9
    refine g_topz (y := 15) (by decide) ?_
    refine lv_istore_n (lv' := [(0, .int (zI 15))]) hx hb dJ1_numberOfTrailingZeros_7 rfl hl (by decide) rfl (fun ls hl => ?_)
    refine lv_iload_n hx hb dJ1_numberOfTrailingZeros_8 rfl (lv_at hl 0 rfl) ?_
    refine g_gt (tgt := 17) hx hb dJ1_numberOfTrailingZeros_9 (by decide) (by decide) (fun hq => ?_) (fun hq => ?_)
    · refine lv_iconst (v := zI 1) hx hb dJ1_numberOfTrailingZeros_17 (by decide +kernel) ?_
      refine lv_istore_n (lv' := [(1, .int (zI 1)), (0, .int (zI 15))]) hx hb dJ1_numberOfTrailingZeros_18 rfl hl (by decide) rfl (fun ls hl => ?_)
      refine lv_iload_n hx hb dJ1_numberOfTrailingZeros_19 rfl (lv_at hl 1 rfl) ?_
      refine lv_ldcw (v := 65536) hx hb hown (hts _ q1896) dJ1_numberOfTrailingZeros_20 ?_
      refine lv_topx (zI 65536) (by decide +kernel) ?_
      refine g_cle (tgt := 34) hx hb dJ1_numberOfTrailingZeros_23 (by decide) (by omega) (fun hq => ?_) (fun hq => ?_)
      · refine lv_iload_n hx hb dJ1_numberOfTrailingZeros_34 rfl (lv_at hl 1 rfl) ?_
        refine lv_sipush (v := zI 256) hx hb dJ1_numberOfTrailingZeros_35 (by decide +kernel) ?_
        refine g_cle (tgt := 49) hx hb dJ1_numberOfTrailingZeros_38 (by decide) (by omega) (fun hq => ?_) (fun hq => ?_)
        · refine lv_iload_n hx hb dJ1_numberOfTrailingZeros_49 rfl (lv_at hl 1 rfl) ?_
          refine lv_bipush (v := zI 16) hx hb dJ1_numberOfTrailingZeros_50 (by decide +kernel) ?_
          refine g_cle (tgt := 62) hx hb dJ1_numberOfTrailingZeros_52 (by decide) (by omega) (fun hq => ?_) (fun hq => ?_)
          · refine lv_iload_n hx hb dJ1_numberOfTrailingZeros_62 rfl (lv_at hl 1 rfl) ?_
            refine lv_iconst (v := zI 4) hx hb dJ1_numberOfTrailingZeros_63 (by decide +kernel) ?_
            refine g_cle (tgt := 74) hx hb dJ1_numberOfTrailingZeros_64 (by decide) (by omega) (fun hq => ?_) (fun hq => ?_)
            · exfalso; omega
            · refine lv_iinc (v := zI 3) (lv' := [(1, .int (zI 3)), (0, .int (zI 15))]) hx hb dJ1_numberOfTrailingZeros_67 hl (k := 0) rfl ((zI_add _ _).trans (congrArg zI (by omega))) (by decide) rfl (fun ls hl => ?_)
              refine lv_iload_n hx hb dJ1_numberOfTrailingZeros_70 rfl (lv_at hl 1 rfl) ?_
              refine lv_iconst (v := zI 2) hx hb dJ1_numberOfTrailingZeros_71 (by decide +kernel) ?_
              refine lv_iushr (v := ((zI 15).toUInt32 >>> ((zI 2).toUInt32 &&& Int32.toUInt32 31)).toInt32) hx hb dJ1_numberOfTrailingZeros_72 rfl ?_
              refine lv_topx (zI 3) (by decide +kernel) ?_
              refine lv_istore_n (lv' := [(0, .int (zI 3)), (1, .int (zI 3))]) hx hb dJ1_numberOfTrailingZeros_73 rfl hl (by decide) rfl (fun ls hl => ?_)
              refine lv_iload_n hx hb dJ1_numberOfTrailingZeros_74 rfl (lv_at hl 1 rfl) ?_
              refine lv_iload_n hx hb dJ1_numberOfTrailingZeros_75 rfl (lv_at hl 0 rfl) ?_
              refine lv_iconst (v := zI 1) hx hb dJ1_numberOfTrailingZeros_76 (by decide +kernel) ?_
              refine lv_iushr (v := ((zI 3).toUInt32 >>> ((zI 1).toUInt32 &&& Int32.toUInt32 31)).toInt32) hx hb dJ1_numberOfTrailingZeros_77 rfl ?_
              refine lv_topx (zI 1) (by decide +kernel) ?_
              refine g_iadd hx hb dJ1_numberOfTrailingZeros_78 ?_
              refine g_topz (y := 4) (by omega) ?_
              exact g_iret hx hb hr hlocks hG (⟨rfl, rfl, rfl, rfl⟩) ⟨Nat.le_of_ble_eq_true rfl, Nat.le_of_ble_eq_true rfl⟩ dJ1_numberOfTrailingZeros_79
          · exfalso; omega
        · exfalso; omega
      · exfalso; omega
    · exfalso; omega
  · subst hk9
    refine g_topz (y := 31) (by decide) ?_
    refine lv_istore_n (lv' := [(0, .int (zI 31))]) hx hb dJ1_numberOfTrailingZeros_7 rfl hl (by decide) rfl (fun ls hl => ?_)
    refine lv_iload_n hx hb dJ1_numberOfTrailingZeros_8 rfl (lv_at hl 0 rfl) ?_
    refine g_gt (tgt := 17) hx hb dJ1_numberOfTrailingZeros_9 (by decide) (by decide) (fun hq => ?_) (fun hq => ?_)
    · refine lv_iconst (v := zI 1) hx hb dJ1_numberOfTrailingZeros_17 (by decide +kernel) ?_
      refine lv_istore_n (lv' := [(1, .int (zI 1)), (0, .int (zI 31))]) hx hb dJ1_numberOfTrailingZeros_18 rfl hl (by decide) rfl (fun ls hl => ?_)
      refine lv_iload_n hx hb dJ1_numberOfTrailingZeros_19 rfl (lv_at hl 1 rfl) ?_
      refine lv_ldcw (v := 65536) hx hb hown (hts _ q1896) dJ1_numberOfTrailingZeros_20 ?_
      refine lv_topx (zI 65536) (by decide +kernel) ?_
      refine g_cle (tgt := 34) hx hb dJ1_numberOfTrailingZeros_23 (by decide) (by omega) (fun hq => ?_) (fun hq => ?_)
      · refine lv_iload_n hx hb dJ1_numberOfTrailingZeros_34 rfl (lv_at hl 1 rfl) ?_
        refine lv_sipush (v := zI 256) hx hb dJ1_numberOfTrailingZeros_35 (by decide +kernel) ?_
        refine g_cle (tgt := 49) hx hb dJ1_numberOfTrailingZeros_38 (by decide) (by omega) (fun hq => ?_) (fun hq => ?_)
        · refine lv_iload_n hx hb dJ1_numberOfTrailingZeros_49 rfl (lv_at hl 1 rfl) ?_
          refine lv_bipush (v := zI 16) hx hb dJ1_numberOfTrailingZeros_50 (by decide +kernel) ?_
          refine g_cle (tgt := 62) hx hb dJ1_numberOfTrailingZeros_52 (by decide) (by omega) (fun hq => ?_) (fun hq => ?_)
          · exfalso; omega
          · refine lv_iinc (v := zI 5) (lv' := [(1, .int (zI 5)), (0, .int (zI 31))]) hx hb dJ1_numberOfTrailingZeros_55 hl (k := 0) rfl ((zI_add _ _).trans (congrArg zI (by omega))) (by decide) rfl (fun ls hl => ?_)
            refine lv_iload_n hx hb dJ1_numberOfTrailingZeros_58 rfl (lv_at hl 1 rfl) ?_
            refine lv_iconst (v := zI 4) hx hb dJ1_numberOfTrailingZeros_59 (by decide +kernel) ?_
            refine lv_iushr (v := ((zI 31).toUInt32 >>> ((zI 4).toUInt32 &&& Int32.toUInt32 31)).toInt32) hx hb dJ1_numberOfTrailingZeros_60 rfl ?_
            refine lv_topx (zI 1) (by decide +kernel) ?_
            refine lv_istore_n (lv' := [(0, .int (zI 1)), (1, .int (zI 5))]) hx hb dJ1_numberOfTrailingZeros_61 rfl hl (by decide) rfl (fun ls hl => ?_)
            refine lv_iload_n hx hb dJ1_numberOfTrailingZeros_62 rfl (lv_at hl 0 rfl) ?_
            refine lv_iconst (v := zI 4) hx hb dJ1_numberOfTrailingZeros_63 (by decide +kernel) ?_
            refine g_cle (tgt := 74) hx hb dJ1_numberOfTrailingZeros_64 (by decide) (by omega) (fun hq => ?_) (fun hq => ?_)
            · refine lv_iload_n hx hb dJ1_numberOfTrailingZeros_74 rfl (lv_at hl 1 rfl) ?_
              refine lv_iload_n hx hb dJ1_numberOfTrailingZeros_75 rfl (lv_at hl 0 rfl) ?_
              refine lv_iconst (v := zI 1) hx hb dJ1_numberOfTrailingZeros_76 (by decide +kernel) ?_
              refine lv_iushr (v := ((zI 1).toUInt32 >>> ((zI 1).toUInt32 &&& Int32.toUInt32 31)).toInt32) hx hb dJ1_numberOfTrailingZeros_77 rfl ?_
              refine lv_topx (zI 0) (by decide +kernel) ?_
              refine g_iadd hx hb dJ1_numberOfTrailingZeros_78 ?_
              refine g_topz (y := 5) (by omega) ?_
              exact g_iret hx hb hr hlocks hG (⟨rfl, rfl, rfl, rfl⟩) ⟨Nat.le_of_ble_eq_true rfl, Nat.le_of_ble_eq_true rfl⟩ dJ1_numberOfTrailingZeros_79
            · exfalso; omega
        · exfalso; omega
      · exfalso; omega
    · exfalso; omega
  · subst hk9
    refine g_topz (y := 63) (by decide) ?_
    refine lv_istore_n (lv' := [(0, .int (zI 63))]) hx hb dJ1_numberOfTrailingZeros_7 rfl hl (by decide) rfl (fun ls hl => ?_)
    refine lv_iload_n hx hb dJ1_numberOfTrailingZeros_8 rfl (lv_at hl 0 rfl) ?_
    refine g_gt (tgt := 17) hx hb dJ1_numberOfTrailingZeros_9 (by decide) (by decide) (fun hq => ?_) (fun hq => ?_)
    · refine lv_iconst (v := zI 1) hx hb dJ1_numberOfTrailingZeros_17 (by decide +kernel) ?_
      refine lv_istore_n (lv' := [(1, .int (zI 1)), (0, .int (zI 63))]) hx hb dJ1_numberOfTrailingZeros_18 rfl hl (by decide) rfl (fun ls hl => ?_)
      refine lv_iload_n hx hb dJ1_numberOfTrailingZeros_19 rfl (lv_at hl 1 rfl) ?_
      refine lv_ldcw (v := 65536) hx hb hown (hts _ q1896) dJ1_numberOfTrailingZeros_20 ?_
      refine lv_topx (zI 65536) (by decide +kernel) ?_
      refine g_cle (tgt := 34) hx hb dJ1_numberOfTrailingZeros_23 (by decide) (by omega) (fun hq => ?_) (fun hq => ?_)
      · refine lv_iload_n hx hb dJ1_numberOfTrailingZeros_34 rfl (lv_at hl 1 rfl) ?_
        refine lv_sipush (v := zI 256) hx hb dJ1_numberOfTrailingZeros_35 (by decide +kernel) ?_
        refine g_cle (tgt := 49) hx hb dJ1_numberOfTrailingZeros_38 (by decide) (by omega) (fun hq => ?_) (fun hq => ?_)
        · refine lv_iload_n hx hb dJ1_numberOfTrailingZeros_49 rfl (lv_at hl 1 rfl) ?_
          refine lv_bipush (v := zI 16) hx hb dJ1_numberOfTrailingZeros_50 (by decide +kernel) ?_
          refine g_cle (tgt := 62) hx hb dJ1_numberOfTrailingZeros_52 (by decide) (by omega) (fun hq => ?_) (fun hq => ?_)
          · exfalso; omega
          · refine lv_iinc (v := zI 5) (lv' := [(1, .int (zI 5)), (0, .int (zI 63))]) hx hb dJ1_numberOfTrailingZeros_55 hl (k := 0) rfl ((zI_add _ _).trans (congrArg zI (by omega))) (by decide) rfl (fun ls hl => ?_)
            refine lv_iload_n hx hb dJ1_numberOfTrailingZeros_58 rfl (lv_at hl 1 rfl) ?_
            refine lv_iconst (v := zI 4) hx hb dJ1_numberOfTrailingZeros_59 (by decide +kernel) ?_
            refine lv_iushr (v := ((zI 63).toUInt32 >>> ((zI 4).toUInt32 &&& Int32.toUInt32 31)).toInt32) hx hb dJ1_numberOfTrailingZeros_60 rfl ?_
            refine lv_topx (zI 3) (by decide +kernel) ?_
            refine lv_istore_n (lv' := [(0, .int (zI 3)), (1, .int (zI 5))]) hx hb dJ1_numberOfTrailingZeros_61 rfl hl (by decide) rfl (fun ls hl => ?_)
            refine lv_iload_n hx hb dJ1_numberOfTrailingZeros_62 rfl (lv_at hl 0 rfl) ?_
            refine lv_iconst (v := zI 4) hx hb dJ1_numberOfTrailingZeros_63 (by decide +kernel) ?_
            refine g_cle (tgt := 74) hx hb dJ1_numberOfTrailingZeros_64 (by decide) (by omega) (fun hq => ?_) (fun hq => ?_)
            · refine lv_iload_n hx hb dJ1_numberOfTrailingZeros_74 rfl (lv_at hl 1 rfl) ?_
              refine lv_iload_n hx hb dJ1_numberOfTrailingZeros_75 rfl (lv_at hl 0 rfl) ?_
              refine lv_iconst (v := zI 1) hx hb dJ1_numberOfTrailingZeros_76 (by decide +kernel) ?_
              refine lv_iushr (v := ((zI 3).toUInt32 >>> ((zI 1).toUInt32 &&& Int32.toUInt32 31)).toInt32) hx hb dJ1_numberOfTrailingZeros_77 rfl ?_
              refine lv_topx (zI 1) (by decide +kernel) ?_
              refine g_iadd hx hb dJ1_numberOfTrailingZeros_78 ?_
              refine g_topz (y := 6) (by omega) ?_
              exact g_iret hx hb hr hlocks hG (⟨rfl, rfl, rfl, rfl⟩) ⟨Nat.le_of_ble_eq_true rfl, Nat.le_of_ble_eq_true rfl⟩ dJ1_numberOfTrailingZeros_79
            · exfalso; omega
        · exfalso; omega
      · exfalso; omega
    · exfalso; omega
  · subst hk9
    refine g_topz (y := 127) (by decide) ?_
    refine lv_istore_n (lv' := [(0, .int (zI 127))]) hx hb dJ1_numberOfTrailingZeros_7 rfl hl (by decide) rfl (fun ls hl => ?_)
    refine lv_iload_n hx hb dJ1_numberOfTrailingZeros_8 rfl (lv_at hl 0 rfl) ?_
    refine g_gt (tgt := 17) hx hb dJ1_numberOfTrailingZeros_9 (by decide) (by decide) (fun hq => ?_) (fun hq => ?_)
    · refine lv_iconst (v := zI 1) hx hb dJ1_numberOfTrailingZeros_17 (by decide +kernel) ?_
      refine lv_istore_n (lv' := [(1, .int (zI 1)), (0, .int (zI 127))]) hx hb dJ1_numberOfTrailingZeros_18 rfl hl (by decide) rfl (fun ls hl => ?_)
      refine lv_iload_n hx hb dJ1_numberOfTrailingZeros_19 rfl (lv_at hl 1 rfl) ?_
      refine lv_ldcw (v := 65536) hx hb hown (hts _ q1896) dJ1_numberOfTrailingZeros_20 ?_
      refine lv_topx (zI 65536) (by decide +kernel) ?_
      refine g_cle (tgt := 34) hx hb dJ1_numberOfTrailingZeros_23 (by decide) (by omega) (fun hq => ?_) (fun hq => ?_)
      · refine lv_iload_n hx hb dJ1_numberOfTrailingZeros_34 rfl (lv_at hl 1 rfl) ?_
        refine lv_sipush (v := zI 256) hx hb dJ1_numberOfTrailingZeros_35 (by decide +kernel) ?_
        refine g_cle (tgt := 49) hx hb dJ1_numberOfTrailingZeros_38 (by decide) (by omega) (fun hq => ?_) (fun hq => ?_)
        · refine lv_iload_n hx hb dJ1_numberOfTrailingZeros_49 rfl (lv_at hl 1 rfl) ?_
          refine lv_bipush (v := zI 16) hx hb dJ1_numberOfTrailingZeros_50 (by decide +kernel) ?_
          refine g_cle (tgt := 62) hx hb dJ1_numberOfTrailingZeros_52 (by decide) (by omega) (fun hq => ?_) (fun hq => ?_)
          · exfalso; omega
          · refine lv_iinc (v := zI 5) (lv' := [(1, .int (zI 5)), (0, .int (zI 127))]) hx hb dJ1_numberOfTrailingZeros_55 hl (k := 0) rfl ((zI_add _ _).trans (congrArg zI (by omega))) (by decide) rfl (fun ls hl => ?_)
            refine lv_iload_n hx hb dJ1_numberOfTrailingZeros_58 rfl (lv_at hl 1 rfl) ?_
            refine lv_iconst (v := zI 4) hx hb dJ1_numberOfTrailingZeros_59 (by decide +kernel) ?_
            refine lv_iushr (v := ((zI 127).toUInt32 >>> ((zI 4).toUInt32 &&& Int32.toUInt32 31)).toInt32) hx hb dJ1_numberOfTrailingZeros_60 rfl ?_
            refine lv_topx (zI 7) (by decide +kernel) ?_
            refine lv_istore_n (lv' := [(0, .int (zI 7)), (1, .int (zI 5))]) hx hb dJ1_numberOfTrailingZeros_61 rfl hl (by decide) rfl (fun ls hl => ?_)
            refine lv_iload_n hx hb dJ1_numberOfTrailingZeros_62 rfl (lv_at hl 0 rfl) ?_
            refine lv_iconst (v := zI 4) hx hb dJ1_numberOfTrailingZeros_63 (by decide +kernel) ?_
            refine g_cle (tgt := 74) hx hb dJ1_numberOfTrailingZeros_64 (by decide) (by omega) (fun hq => ?_) (fun hq => ?_)
            · exfalso; omega
            · refine lv_iinc (v := zI 7) (lv' := [(1, .int (zI 7)), (0, .int (zI 7))]) hx hb dJ1_numberOfTrailingZeros_67 hl (k := 1) rfl ((zI_add _ _).trans (congrArg zI (by omega))) (by decide) rfl (fun ls hl => ?_)
              refine lv_iload_n hx hb dJ1_numberOfTrailingZeros_70 rfl (lv_at hl 1 rfl) ?_
              refine lv_iconst (v := zI 2) hx hb dJ1_numberOfTrailingZeros_71 (by decide +kernel) ?_
              refine lv_iushr (v := ((zI 7).toUInt32 >>> ((zI 2).toUInt32 &&& Int32.toUInt32 31)).toInt32) hx hb dJ1_numberOfTrailingZeros_72 rfl ?_
              refine lv_topx (zI 1) (by decide +kernel) ?_
              refine lv_istore_n (lv' := [(0, .int (zI 1)), (1, .int (zI 7))]) hx hb dJ1_numberOfTrailingZeros_73 rfl hl (by decide) rfl (fun ls hl => ?_)
              refine lv_iload_n hx hb dJ1_numberOfTrailingZeros_74 rfl (lv_at hl 1 rfl) ?_
              refine lv_iload_n hx hb dJ1_numberOfTrailingZeros_75 rfl (lv_at hl 0 rfl) ?_
              refine lv_iconst (v := zI 1) hx hb dJ1_numberOfTrailingZeros_76 (by decide +kernel) ?_
              refine lv_iushr (v := ((zI 1).toUInt32 >>> ((zI 1).toUInt32 &&& Int32.toUInt32 31)).toInt32) hx hb dJ1_numberOfTrailingZeros_77 rfl ?_
              refine lv_topx (zI 0) (by decide +kernel) ?_
              refine g_iadd hx hb dJ1_numberOfTrailingZeros_78 ?_
              refine g_topz (y := 7) (by omega) ?_
              exact g_iret hx hb hr hlocks hG (⟨rfl, rfl, rfl, rfl⟩) ⟨Nat.le_of_ble_eq_true rfl, Nat.le_of_ble_eq_true rfl⟩ dJ1_numberOfTrailingZeros_79
        · exfalso; omega
      · exfalso; omega
    · exfalso; omega
  · subst hk9
    refine g_topz (y := 255) (by decide) ?_
    refine lv_istore_n (lv' := [(0, .int (zI 255))]) hx hb dJ1_numberOfTrailingZeros_7 rfl hl (by decide) rfl (fun ls hl => ?_)
    refine lv_iload_n hx hb dJ1_numberOfTrailingZeros_8 rfl (lv_at hl 0 rfl) ?_
    refine g_gt (tgt := 17) hx hb dJ1_numberOfTrailingZeros_9 (by decide) (by decide) (fun hq => ?_) (fun hq => ?_)
    · refine lv_iconst (v := zI 1) hx hb dJ1_numberOfTrailingZeros_17 (by decide +kernel) ?_
      refine lv_istore_n (lv' := [(1, .int (zI 1)), (0, .int (zI 255))]) hx hb dJ1_numberOfTrailingZeros_18 rfl hl (by decide) rfl (fun ls hl => ?_)
      refine lv_iload_n hx hb dJ1_numberOfTrailingZeros_19 rfl (lv_at hl 1 rfl) ?_
      refine lv_ldcw (v := 65536) hx hb hown (hts _ q1896) dJ1_numberOfTrailingZeros_20 ?_
      refine lv_topx (zI 65536) (by decide +kernel) ?_
      refine g_cle (tgt := 34) hx hb dJ1_numberOfTrailingZeros_23 (by decide) (by omega) (fun hq => ?_) (fun hq => ?_)
      · refine lv_iload_n hx hb dJ1_numberOfTrailingZeros_34 rfl (lv_at hl 1 rfl) ?_
        refine lv_sipush (v := zI 256) hx hb dJ1_numberOfTrailingZeros_35 (by decide +kernel) ?_
        refine g_cle (tgt := 49) hx hb dJ1_numberOfTrailingZeros_38 (by decide) (by omega) (fun hq => ?_) (fun hq => ?_)
        · refine lv_iload_n hx hb dJ1_numberOfTrailingZeros_49 rfl (lv_at hl 1 rfl) ?_
          refine lv_bipush (v := zI 16) hx hb dJ1_numberOfTrailingZeros_50 (by decide +kernel) ?_
          refine g_cle (tgt := 62) hx hb dJ1_numberOfTrailingZeros_52 (by decide) (by omega) (fun hq => ?_) (fun hq => ?_)
          · exfalso; omega
          · refine lv_iinc (v := zI 5) (lv' := [(1, .int (zI 5)), (0, .int (zI 255))]) hx hb dJ1_numberOfTrailingZeros_55 hl (k := 0) rfl ((zI_add _ _).trans (congrArg zI (by omega))) (by decide) rfl (fun ls hl => ?_)
            refine lv_iload_n hx hb dJ1_numberOfTrailingZeros_58 rfl (lv_at hl 1 rfl) ?_
            refine lv_iconst (v := zI 4) hx hb dJ1_numberOfTrailingZeros_59 (by decide +kernel) ?_
            refine lv_iushr (v := ((zI 255).toUInt32 >>> ((zI 4).toUInt32 &&& Int32.toUInt32 31)).toInt32) hx hb dJ1_numberOfTrailingZeros_60 rfl ?_
            refine lv_topx (zI 15) (by decide +kernel) ?_
            refine lv_istore_n (lv' := [(0, .int (zI 15)), (1, .int (zI 5))]) hx hb dJ1_numberOfTrailingZeros_61 rfl hl (by decide) rfl (fun ls hl => ?_)
            refine lv_iload_n hx hb dJ1_numberOfTrailingZeros_62 rfl (lv_at hl 0 rfl) ?_
            refine lv_iconst (v := zI 4) hx hb dJ1_numberOfTrailingZeros_63 (by decide +kernel) ?_
            refine g_cle (tgt := 74) hx hb dJ1_numberOfTrailingZeros_64 (by decide) (by omega) (fun hq => ?_) (fun hq => ?_)
            · exfalso; omega
            · refine lv_iinc (v := zI 7) (lv' := [(1, .int (zI 7)), (0, .int (zI 15))]) hx hb dJ1_numberOfTrailingZeros_67 hl (k := 1) rfl ((zI_add _ _).trans (congrArg zI (by omega))) (by decide) rfl (fun ls hl => ?_)
              refine lv_iload_n hx hb dJ1_numberOfTrailingZeros_70 rfl (lv_at hl 1 rfl) ?_
              refine lv_iconst (v := zI 2) hx hb dJ1_numberOfTrailingZeros_71 (by decide +kernel) ?_
              refine lv_iushr (v := ((zI 15).toUInt32 >>> ((zI 2).toUInt32 &&& Int32.toUInt32 31)).toInt32) hx hb dJ1_numberOfTrailingZeros_72 rfl ?_
              refine lv_topx (zI 3) (by decide +kernel) ?_
              refine lv_istore_n (lv' := [(0, .int (zI 3)), (1, .int (zI 7))]) hx hb dJ1_numberOfTrailingZeros_73 rfl hl (by decide) rfl (fun ls hl => ?_)
              refine lv_iload_n hx hb dJ1_numberOfTrailingZeros_74 rfl (lv_at hl 1 rfl) ?_
              refine lv_iload_n hx hb dJ1_numberOfTrailingZeros_75 rfl (lv_at hl 0 rfl) ?_
              refine lv_iconst (v := zI 1) hx hb dJ1_numberOfTrailingZeros_76 (by decide +kernel) ?_
              refine lv_iushr (v := ((zI 3).toUInt32 >>> ((zI 1).toUInt32 &&& Int32.toUInt32 31)).toInt32) hx hb dJ1_numberOfTrailingZeros_77 rfl ?_
              refine lv_topx (zI 1) (by decide +kernel) ?_
              refine g_iadd hx hb dJ1_numberOfTrailingZeros_78 ?_
              refine g_topz (y := 8) (by omega) ?_
              exact g_iret hx hb hr hlocks hG (⟨rfl, rfl, rfl, rfl⟩) ⟨Nat.le_of_ble_eq_true rfl, Nat.le_of_ble_eq_true rfl⟩ dJ1_numberOfTrailingZeros_79
        · exfalso; omega
      · exfalso; omega
    · exfalso; omega
  · subst hk9
    refine g_topz (y := 511) (by decide) ?_
    refine lv_istore_n (lv' := [(0, .int (zI 511))]) hx hb dJ1_numberOfTrailingZeros_7 rfl hl (by decide) rfl (fun ls hl => ?_)
    refine lv_iload_n hx hb dJ1_numberOfTrailingZeros_8 rfl (lv_at hl 0 rfl) ?_
    refine g_gt (tgt := 17) hx hb dJ1_numberOfTrailingZeros_9 (by decide) (by decide) (fun hq => ?_) (fun hq => ?_)
    · refine lv_iconst (v := zI 1) hx hb dJ1_numberOfTrailingZeros_17 (by decide +kernel) ?_
      refine lv_istore_n (lv' := [(1, .int (zI 1)), (0, .int (zI 511))]) hx hb dJ1_numberOfTrailingZeros_18 rfl hl (by decide) rfl (fun ls hl => ?_)
      refine lv_iload_n hx hb dJ1_numberOfTrailingZeros_19 rfl (lv_at hl 1 rfl) ?_
      refine lv_ldcw (v := 65536) hx hb hown (hts _ q1896) dJ1_numberOfTrailingZeros_20 ?_
      refine lv_topx (zI 65536) (by decide +kernel) ?_
      refine g_cle (tgt := 34) hx hb dJ1_numberOfTrailingZeros_23 (by decide) (by omega) (fun hq => ?_) (fun hq => ?_)
      · refine lv_iload_n hx hb dJ1_numberOfTrailingZeros_34 rfl (lv_at hl 1 rfl) ?_
        refine lv_sipush (v := zI 256) hx hb dJ1_numberOfTrailingZeros_35 (by decide +kernel) ?_
        refine g_cle (tgt := 49) hx hb dJ1_numberOfTrailingZeros_38 (by decide) (by omega) (fun hq => ?_) (fun hq => ?_)
        · exfalso; omega
        · refine lv_iinc (v := zI 9) (lv' := [(1, .int (zI 9)), (0, .int (zI 511))]) hx hb dJ1_numberOfTrailingZeros_41 hl (k := 0) rfl ((zI_add _ _).trans (congrArg zI (by omega))) (by decide) rfl (fun ls hl => ?_)
          refine lv_iload_n hx hb dJ1_numberOfTrailingZeros_44 rfl (lv_at hl 1 rfl) ?_
          refine lv_bipush (v := zI 8) hx hb dJ1_numberOfTrailingZeros_45 (by decide +kernel) ?_
          refine lv_iushr (v := ((zI 511).toUInt32 >>> ((zI 8).toUInt32 &&& Int32.toUInt32 31)).toInt32) hx hb dJ1_numberOfTrailingZeros_47 rfl ?_
          refine lv_topx (zI 1) (by decide +kernel) ?_
          refine lv_istore_n (lv' := [(0, .int (zI 1)), (1, .int (zI 9))]) hx hb dJ1_numberOfTrailingZeros_48 rfl hl (by decide) rfl (fun ls hl => ?_)
          refine lv_iload_n hx hb dJ1_numberOfTrailingZeros_49 rfl (lv_at hl 0 rfl) ?_
          refine lv_bipush (v := zI 16) hx hb dJ1_numberOfTrailingZeros_50 (by decide +kernel) ?_
          refine g_cle (tgt := 62) hx hb dJ1_numberOfTrailingZeros_52 (by decide) (by omega) (fun hq => ?_) (fun hq => ?_)
          · refine lv_iload_n hx hb dJ1_numberOfTrailingZeros_62 rfl (lv_at hl 0 rfl) ?_
            refine lv_iconst (v := zI 4) hx hb dJ1_numberOfTrailingZeros_63 (by decide +kernel) ?_
            refine g_cle (tgt := 74) hx hb dJ1_numberOfTrailingZeros_64 (by decide) (by omega) (fun hq => ?_) (fun hq => ?_)
            · refine lv_iload_n hx hb dJ1_numberOfTrailingZeros_74 rfl (lv_at hl 1 rfl) ?_
              refine lv_iload_n hx hb dJ1_numberOfTrailingZeros_75 rfl (lv_at hl 0 rfl) ?_
              refine lv_iconst (v := zI 1) hx hb dJ1_numberOfTrailingZeros_76 (by decide +kernel) ?_
              refine lv_iushr (v := ((zI 1).toUInt32 >>> ((zI 1).toUInt32 &&& Int32.toUInt32 31)).toInt32) hx hb dJ1_numberOfTrailingZeros_77 rfl ?_
              refine lv_topx (zI 0) (by decide +kernel) ?_
              refine g_iadd hx hb dJ1_numberOfTrailingZeros_78 ?_
              refine g_topz (y := 9) (by omega) ?_
              exact g_iret hx hb hr hlocks hG (⟨rfl, rfl, rfl, rfl⟩) ⟨Nat.le_of_ble_eq_true rfl, Nat.le_of_ble_eq_true rfl⟩ dJ1_numberOfTrailingZeros_79
            · exfalso; omega
          · exfalso; omega
      · exfalso; omega
    · exfalso; omega
  · subst hk9
    refine g_topz (y := 1023) (by decide) ?_
    refine lv_istore_n (lv' := [(0, .int (zI 1023))]) hx hb dJ1_numberOfTrailingZeros_7 rfl hl (by decide) rfl (fun ls hl => ?_)
    refine lv_iload_n hx hb dJ1_numberOfTrailingZeros_8 rfl (lv_at hl 0 rfl) ?_
    refine g_gt (tgt := 17) hx hb dJ1_numberOfTrailingZeros_9 (by decide) (by decide) (fun hq => ?_) (fun hq => ?_)
    · refine lv_iconst (v := zI 1) hx hb dJ1_numberOfTrailingZeros_17 (by decide +kernel) ?_
      refine lv_istore_n (lv' := [(1, .int (zI 1)), (0, .int (zI 1023))]) hx hb dJ1_numberOfTrailingZeros_18 rfl hl (by decide) rfl (fun ls hl => ?_)
      refine lv_iload_n hx hb dJ1_numberOfTrailingZeros_19 rfl (lv_at hl 1 rfl) ?_
      refine lv_ldcw (v := 65536) hx hb hown (hts _ q1896) dJ1_numberOfTrailingZeros_20 ?_
      refine lv_topx (zI 65536) (by decide +kernel) ?_
      refine g_cle (tgt := 34) hx hb dJ1_numberOfTrailingZeros_23 (by decide) (by omega) (fun hq => ?_) (fun hq => ?_)
      · refine lv_iload_n hx hb dJ1_numberOfTrailingZeros_34 rfl (lv_at hl 1 rfl) ?_
        refine lv_sipush (v := zI 256) hx hb dJ1_numberOfTrailingZeros_35 (by decide +kernel) ?_
        refine g_cle (tgt := 49) hx hb dJ1_numberOfTrailingZeros_38 (by decide) (by omega) (fun hq => ?_) (fun hq => ?_)
        · exfalso; omega
        · refine lv_iinc (v := zI 9) (lv' := [(1, .int (zI 9)), (0, .int (zI 1023))]) hx hb dJ1_numberOfTrailingZeros_41 hl (k := 0) rfl ((zI_add _ _).trans (congrArg zI (by omega))) (by decide) rfl (fun ls hl => ?_)
          refine lv_iload_n hx hb dJ1_numberOfTrailingZeros_44 rfl (lv_at hl 1 rfl) ?_
          refine lv_bipush (v := zI 8) hx hb dJ1_numberOfTrailingZeros_45 (by decide +kernel) ?_
          refine lv_iushr (v := ((zI 1023).toUInt32 >>> ((zI 8).toUInt32 &&& Int32.toUInt32 31)).toInt32) hx hb dJ1_numberOfTrailingZeros_47 rfl ?_
          refine lv_topx (zI 3) (by decide +kernel) ?_
          refine lv_istore_n (lv' := [(0, .int (zI 3)), (1, .int (zI 9))]) hx hb dJ1_numberOfTrailingZeros_48 rfl hl (by decide) rfl (fun ls hl => ?_)
          refine lv_iload_n hx hb dJ1_numberOfTrailingZeros_49 rfl (lv_at hl 0 rfl) ?_
          refine lv_bipush (v := zI 16) hx hb dJ1_numberOfTrailingZeros_50 (by decide +kernel) ?_
          refine g_cle (tgt := 62) hx hb dJ1_numberOfTrailingZeros_52 (by decide) (by omega) (fun hq => ?_) (fun hq => ?_)
          · refine lv_iload_n hx hb dJ1_numberOfTrailingZeros_62 rfl (lv_at hl 0 rfl) ?_
            refine lv_iconst (v := zI 4) hx hb dJ1_numberOfTrailingZeros_63 (by decide +kernel) ?_
            refine g_cle (tgt := 74) hx hb dJ1_numberOfTrailingZeros_64 (by decide) (by omega) (fun hq => ?_) (fun hq => ?_)
            · refine lv_iload_n hx hb dJ1_numberOfTrailingZeros_74 rfl (lv_at hl 1 rfl) ?_
              refine lv_iload_n hx hb dJ1_numberOfTrailingZeros_75 rfl (lv_at hl 0 rfl) ?_
              refine lv_iconst (v := zI 1) hx hb dJ1_numberOfTrailingZeros_76 (by decide +kernel) ?_
              refine lv_iushr (v := ((zI 3).toUInt32 >>> ((zI 1).toUInt32 &&& Int32.toUInt32 31)).toInt32) hx hb dJ1_numberOfTrailingZeros_77 rfl ?_
              refine lv_topx (zI 1) (by decide +kernel) ?_
              refine g_iadd hx hb dJ1_numberOfTrailingZeros_78 ?_
              refine g_topz (y := 10) (by omega) ?_
              exact g_iret hx hb hr hlocks hG (⟨rfl, rfl, rfl, rfl⟩) ⟨Nat.le_of_ble_eq_true rfl, Nat.le_of_ble_eq_true rfl⟩ dJ1_numberOfTrailingZeros_79
            · exfalso; omega
          · exfalso; omega
      · exfalso; omega
    · exfalso; omega
  · subst hk9
    refine g_topz (y := 2047) (by decide) ?_
    refine lv_istore_n (lv' := [(0, .int (zI 2047))]) hx hb dJ1_numberOfTrailingZeros_7 rfl hl (by decide) rfl (fun ls hl => ?_)
    refine lv_iload_n hx hb dJ1_numberOfTrailingZeros_8 rfl (lv_at hl 0 rfl) ?_
    refine g_gt (tgt := 17) hx hb dJ1_numberOfTrailingZeros_9 (by decide) (by decide) (fun hq => ?_) (fun hq => ?_)
    · refine lv_iconst (v := zI 1) hx hb dJ1_numberOfTrailingZeros_17 (by decide +kernel) ?_
      refine lv_istore_n (lv' := [(1, .int (zI 1)), (0, .int (zI 2047))]) hx hb dJ1_numberOfTrailingZeros_18 rfl hl (by decide) rfl (fun ls hl => ?_)
      refine lv_iload_n hx hb dJ1_numberOfTrailingZeros_19 rfl (lv_at hl 1 rfl) ?_
      refine lv_ldcw (v := 65536) hx hb hown (hts _ q1896) dJ1_numberOfTrailingZeros_20 ?_
      refine lv_topx (zI 65536) (by decide +kernel) ?_
      refine g_cle (tgt := 34) hx hb dJ1_numberOfTrailingZeros_23 (by decide) (by omega) (fun hq => ?_) (fun hq => ?_)
      · refine lv_iload_n hx hb dJ1_numberOfTrailingZeros_34 rfl (lv_at hl 1 rfl) ?_
        refine lv_sipush (v := zI 256) hx hb dJ1_numberOfTrailingZeros_35 (by decide +kernel) ?_
        refine g_cle (tgt := 49) hx hb dJ1_numberOfTrailingZeros_38 (by decide) (by omega) (fun hq => ?_) (fun hq => ?_)
        · exfalso; omega
        · refine lv_iinc (v := zI 9) (lv' := [(1, .int (zI 9)), (0, .int (zI 2047))]) hx hb dJ1_numberOfTrailingZeros_41 hl (k := 0) rfl ((zI_add _ _).trans (congrArg zI (by omega))) (by decide) rfl (fun ls hl => ?_)
          refine lv_iload_n hx hb dJ1_numberOfTrailingZeros_44 rfl (lv_at hl 1 rfl) ?_
          refine lv_bipush (v := zI 8) hx hb dJ1_numberOfTrailingZeros_45 (by decide +kernel) ?_
          refine lv_iushr (v := ((zI 2047).toUInt32 >>> ((zI 8).toUInt32 &&& Int32.toUInt32 31)).toInt32) hx hb dJ1_numberOfTrailingZeros_47 rfl ?_
          refine lv_topx (zI 7) (by decide +kernel) ?_
          refine lv_istore_n (lv' := [(0, .int (zI 7)), (1, .int (zI 9))]) hx hb dJ1_numberOfTrailingZeros_48 rfl hl (by decide) rfl (fun ls hl => ?_)
          refine lv_iload_n hx hb dJ1_numberOfTrailingZeros_49 rfl (lv_at hl 0 rfl) ?_
          refine lv_bipush (v := zI 16) hx hb dJ1_numberOfTrailingZeros_50 (by decide +kernel) ?_
          refine g_cle (tgt := 62) hx hb dJ1_numberOfTrailingZeros_52 (by decide) (by omega) (fun hq => ?_) (fun hq => ?_)
          · refine lv_iload_n hx hb dJ1_numberOfTrailingZeros_62 rfl (lv_at hl 0 rfl) ?_
            refine lv_iconst (v := zI 4) hx hb dJ1_numberOfTrailingZeros_63 (by decide +kernel) ?_
            refine g_cle (tgt := 74) hx hb dJ1_numberOfTrailingZeros_64 (by decide) (by omega) (fun hq => ?_) (fun hq => ?_)
            · exfalso; omega
            · refine lv_iinc (v := zI 11) (lv' := [(1, .int (zI 11)), (0, .int (zI 7))]) hx hb dJ1_numberOfTrailingZeros_67 hl (k := 1) rfl ((zI_add _ _).trans (congrArg zI (by omega))) (by decide) rfl (fun ls hl => ?_)
              refine lv_iload_n hx hb dJ1_numberOfTrailingZeros_70 rfl (lv_at hl 1 rfl) ?_
              refine lv_iconst (v := zI 2) hx hb dJ1_numberOfTrailingZeros_71 (by decide +kernel) ?_
              refine lv_iushr (v := ((zI 7).toUInt32 >>> ((zI 2).toUInt32 &&& Int32.toUInt32 31)).toInt32) hx hb dJ1_numberOfTrailingZeros_72 rfl ?_
              refine lv_topx (zI 1) (by decide +kernel) ?_
              refine lv_istore_n (lv' := [(0, .int (zI 1)), (1, .int (zI 11))]) hx hb dJ1_numberOfTrailingZeros_73 rfl hl (by decide) rfl (fun ls hl => ?_)
              refine lv_iload_n hx hb dJ1_numberOfTrailingZeros_74 rfl (lv_at hl 1 rfl) ?_
              refine lv_iload_n hx hb dJ1_numberOfTrailingZeros_75 rfl (lv_at hl 0 rfl) ?_
              refine lv_iconst (v := zI 1) hx hb dJ1_numberOfTrailingZeros_76 (by decide +kernel) ?_
              refine lv_iushr (v := ((zI 1).toUInt32 >>> ((zI 1).toUInt32 &&& Int32.toUInt32 31)).toInt32) hx hb dJ1_numberOfTrailingZeros_77 rfl ?_
              refine lv_topx (zI 0) (by decide +kernel) ?_
              refine g_iadd hx hb dJ1_numberOfTrailingZeros_78 ?_
              refine g_topz (y := 11) (by omega) ?_
              exact g_iret hx hb hr hlocks hG (⟨rfl, rfl, rfl, rfl⟩) ⟨Nat.le_of_ble_eq_true rfl, Nat.le_of_ble_eq_true rfl⟩ dJ1_numberOfTrailingZeros_79
          · exfalso; omega
      · exfalso; omega
    · exfalso; omega
  · subst hk9
    refine g_topz (y := 4095) (by decide) ?_
    refine lv_istore_n (lv' := [(0, .int (zI 4095))]) hx hb dJ1_numberOfTrailingZeros_7 rfl hl (by decide) rfl (fun ls hl => ?_)
    refine lv_iload_n hx hb dJ1_numberOfTrailingZeros_8 rfl (lv_at hl 0 rfl) ?_
    refine g_gt (tgt := 17) hx hb dJ1_numberOfTrailingZeros_9 (by decide) (by decide) (fun hq => ?_) (fun hq => ?_)
    · refine lv_iconst (v := zI 1) hx hb dJ1_numberOfTrailingZeros_17 (by decide +kernel) ?_
      refine lv_istore_n (lv' := [(1, .int (zI 1)), (0, .int (zI 4095))]) hx hb dJ1_numberOfTrailingZeros_18 rfl hl (by decide) rfl (fun ls hl => ?_)
      refine lv_iload_n hx hb dJ1_numberOfTrailingZeros_19 rfl (lv_at hl 1 rfl) ?_
      refine lv_ldcw (v := 65536) hx hb hown (hts _ q1896) dJ1_numberOfTrailingZeros_20 ?_
      refine lv_topx (zI 65536) (by decide +kernel) ?_
      refine g_cle (tgt := 34) hx hb dJ1_numberOfTrailingZeros_23 (by decide) (by omega) (fun hq => ?_) (fun hq => ?_)
      · refine lv_iload_n hx hb dJ1_numberOfTrailingZeros_34 rfl (lv_at hl 1 rfl) ?_
        refine lv_sipush (v := zI 256) hx hb dJ1_numberOfTrailingZeros_35 (by decide +kernel) ?_
        refine g_cle (tgt := 49) hx hb dJ1_numberOfTrailingZeros_38 (by decide) (by omega) (fun hq => ?_) (fun hq => ?_)
        · exfalso; omega
        · refine lv_iinc (v := zI 9) (lv' := [(1, .int (zI 9)), (0, .int (zI 4095))]) hx hb dJ1_numberOfTrailingZeros_41 hl (k := 0) rfl ((zI_add _ _).trans (congrArg zI (by omega))) (by decide) rfl (fun ls hl => ?_)
          refine lv_iload_n hx hb dJ1_numberOfTrailingZeros_44 rfl (lv_at hl 1 rfl) ?_
          refine lv_bipush (v := zI 8) hx hb dJ1_numberOfTrailingZeros_45 (by decide +kernel) ?_
          refine lv_iushr (v := ((zI 4095).toUInt32 >>> ((zI 8).toUInt32 &&& Int32.toUInt32 31)).toInt32) hx hb dJ1_numberOfTrailingZeros_47 rfl ?_
          refine lv_topx (zI 15) (by decide +kernel) ?_
          refine lv_istore_n (lv' := [(0, .int (zI 15)), (1, .int (zI 9))]) hx hb dJ1_numberOfTrailingZeros_48 rfl hl (by decide) rfl (fun ls hl => ?_)
          refine lv_iload_n hx hb dJ1_numberOfTrailingZeros_49 rfl (lv_at hl 0 rfl) ?_
          refine lv_bipush (v := zI 16) hx hb dJ1_numberOfTrailingZeros_50 (by decide +kernel) ?_
          refine g_cle (tgt := 62) hx hb dJ1_numberOfTrailingZeros_52 (by decide) (by omega) (fun hq => ?_) (fun hq => ?_)
          · refine lv_iload_n hx hb dJ1_numberOfTrailingZeros_62 rfl (lv_at hl 0 rfl) ?_
            refine lv_iconst (v := zI 4) hx hb dJ1_numberOfTrailingZeros_63 (by decide +kernel) ?_
            refine g_cle (tgt := 74) hx hb dJ1_numberOfTrailingZeros_64 (by decide) (by omega) (fun hq => ?_) (fun hq => ?_)
            · exfalso; omega
            · refine lv_iinc (v := zI 11) (lv' := [(1, .int (zI 11)), (0, .int (zI 15))]) hx hb dJ1_numberOfTrailingZeros_67 hl (k := 1) rfl ((zI_add _ _).trans (congrArg zI (by omega))) (by decide) rfl (fun ls hl => ?_)
              refine lv_iload_n hx hb dJ1_numberOfTrailingZeros_70 rfl (lv_at hl 1 rfl) ?_
              refine lv_iconst (v := zI 2) hx hb dJ1_numberOfTrailingZeros_71 (by decide +kernel) ?_
              refine lv_iushr (v := ((zI 15).toUInt32 >>> ((zI 2).toUInt32 &&& Int32.toUInt32 31)).toInt32) hx hb dJ1_numberOfTrailingZeros_72 rfl ?_
              refine lv_topx (zI 3) (by decide +kernel) ?_
              refine lv_istore_n (lv' := [(0, .int (zI 3)), (1, .int (zI 11))]) hx hb dJ1_numberOfTrailingZeros_73 rfl hl (by decide) rfl (fun ls hl => ?_)
              refine lv_iload_n hx hb dJ1_numberOfTrailingZeros_74 rfl (lv_at hl 1 rfl) ?_
              refine lv_iload_n hx hb dJ1_numberOfTrailingZeros_75 rfl (lv_at hl 0 rfl) ?_
              refine lv_iconst (v := zI 1) hx hb dJ1_numberOfTrailingZeros_76 (by decide +kernel) ?_
              refine lv_iushr (v := ((zI 3).toUInt32 >>> ((zI 1).toUInt32 &&& Int32.toUInt32 31)).toInt32) hx hb dJ1_numberOfTrailingZeros_77 rfl ?_
              refine lv_topx (zI 1) (by decide +kernel) ?_
              refine g_iadd hx hb dJ1_numberOfTrailingZeros_78 ?_
              refine g_topz (y := 12) (by omega) ?_
              exact g_iret hx hb hr hlocks hG (⟨rfl, rfl, rfl, rfl⟩) ⟨Nat.le_of_ble_eq_true rfl, Nat.le_of_ble_eq_true rfl⟩ dJ1_numberOfTrailingZeros_79
          · exfalso; omega
      · exfalso; omega
    · exfalso; omega
  · subst hk9
    refine g_topz (y := 8191) (by decide) ?_
    refine lv_istore_n (lv' := [(0, .int (zI 8191))]) hx hb dJ1_numberOfTrailingZeros_7 rfl hl (by decide) rfl (fun ls hl => ?_)
    refine lv_iload_n hx hb dJ1_numberOfTrailingZeros_8 rfl (lv_at hl 0 rfl) ?_
    refine g_gt (tgt := 17) hx hb dJ1_numberOfTrailingZeros_9 (by decide) (by decide) (fun hq => ?_) (fun hq => ?_)
    · refine lv_iconst (v := zI 1) hx hb dJ1_numberOfTrailingZeros_17 (by decide +kernel) ?_
      refine lv_istore_n (lv' := [(1, .int (zI 1)), (0, .int (zI 8191))]) hx hb dJ1_numberOfTrailingZeros_18 rfl hl (by decide) rfl (fun ls hl => ?_)
      refine lv_iload_n hx hb dJ1_numberOfTrailingZeros_19 rfl (lv_at hl 1 rfl) ?_
      refine lv_ldcw (v := 65536) hx hb hown (hts _ q1896) dJ1_numberOfTrailingZeros_20 ?_
      refine lv_topx (zI 65536) (by decide +kernel) ?_
      refine g_cle (tgt := 34) hx hb dJ1_numberOfTrailingZeros_23 (by decide) (by omega) (fun hq => ?_) (fun hq => ?_)
      · refine lv_iload_n hx hb dJ1_numberOfTrailingZeros_34 rfl (lv_at hl 1 rfl) ?_
        refine lv_sipush (v := zI 256) hx hb dJ1_numberOfTrailingZeros_35 (by decide +kernel) ?_
        refine g_cle (tgt := 49) hx hb dJ1_numberOfTrailingZeros_38 (by decide) (by omega) (fun hq => ?_) (fun hq => ?_)
        · exfalso; omega
        · refine lv_iinc (v := zI 9) (lv' := [(1, .int (zI 9)), (0, .int (zI 8191))]) hx hb dJ1_numberOfTrailingZeros_41 hl (k := 0) rfl ((zI_add _ _).trans (congrArg zI (by omega))) (by decide) rfl (fun ls hl => ?_)
          refine lv_iload_n hx hb dJ1_numberOfTrailingZeros_44 rfl (lv_at hl 1 rfl) ?_
          refine lv_bipush (v := zI 8) hx hb dJ1_numberOfTrailingZeros_45 (by decide +kernel) ?_
          refine lv_iushr (v := ((zI 8191).toUInt32 >>> ((zI 8).toUInt32 &&& Int32.toUInt32 31)).toInt32) hx hb dJ1_numberOfTrailingZeros_47 rfl ?_
          refine lv_topx (zI 31) (by decide +kernel) ?_
          refine lv_istore_n (lv' := [(0, .int (zI 31)), (1, .int (zI 9))]) hx hb dJ1_numberOfTrailingZeros_48 rfl hl (by decide) rfl (fun ls hl => ?_)
          refine lv_iload_n hx hb dJ1_numberOfTrailingZeros_49 rfl (lv_at hl 0 rfl) ?_
          refine lv_bipush (v := zI 16) hx hb dJ1_numberOfTrailingZeros_50 (by decide +kernel) ?_
          refine g_cle (tgt := 62) hx hb dJ1_numberOfTrailingZeros_52 (by decide) (by omega) (fun hq => ?_) (fun hq => ?_)
          · exfalso; omega
          · refine lv_iinc (v := zI 13) (lv' := [(1, .int (zI 13)), (0, .int (zI 31))]) hx hb dJ1_numberOfTrailingZeros_55 hl (k := 1) rfl ((zI_add _ _).trans (congrArg zI (by omega))) (by decide) rfl (fun ls hl => ?_)
            refine lv_iload_n hx hb dJ1_numberOfTrailingZeros_58 rfl (lv_at hl 1 rfl) ?_
            refine lv_iconst (v := zI 4) hx hb dJ1_numberOfTrailingZeros_59 (by decide +kernel) ?_
            refine lv_iushr (v := ((zI 31).toUInt32 >>> ((zI 4).toUInt32 &&& Int32.toUInt32 31)).toInt32) hx hb dJ1_numberOfTrailingZeros_60 rfl ?_
            refine lv_topx (zI 1) (by decide +kernel) ?_
            refine lv_istore_n (lv' := [(0, .int (zI 1)), (1, .int (zI 13))]) hx hb dJ1_numberOfTrailingZeros_61 rfl hl (by decide) rfl (fun ls hl => ?_)
            refine lv_iload_n hx hb dJ1_numberOfTrailingZeros_62 rfl (lv_at hl 0 rfl) ?_
            refine lv_iconst (v := zI 4) hx hb dJ1_numberOfTrailingZeros_63 (by decide +kernel) ?_
            refine g_cle (tgt := 74) hx hb dJ1_numberOfTrailingZeros_64 (by decide) (by omega) (fun hq => ?_) (fun hq => ?_)
            · refine lv_iload_n hx hb dJ1_numberOfTrailingZeros_74 rfl (lv_at hl 1 rfl) ?_
              refine lv_iload_n hx hb dJ1_numberOfTrailingZeros_75 rfl (lv_at hl 0 rfl) ?_
              refine lv_iconst (v := zI 1) hx hb dJ1_numberOfTrailingZeros_76 (by decide +kernel) ?_
              refine lv_iushr (v := ((zI 1).toUInt32 >>> ((zI 1).toUInt32 &&& Int32.toUInt32 31)).toInt32) hx hb dJ1_numberOfTrailingZeros_77 rfl ?_
              refine lv_topx (zI 0) (by decide +kernel) ?_
              refine g_iadd hx hb dJ1_numberOfTrailingZeros_78 ?_
              refine g_topz (y := 13) (by omega) ?_
              exact g_iret hx hb hr hlocks hG (⟨rfl, rfl, rfl, rfl⟩) ⟨Nat.le_of_ble_eq_true rfl, Nat.le_of_ble_eq_true rfl⟩ dJ1_numberOfTrailingZeros_79
            · exfalso; omega
      · exfalso; omega
    · exfalso; omega
  · subst hk9
    refine g_topz (y := 16383) (by decide) ?_
    refine lv_istore_n (lv' := [(0, .int (zI 16383))]) hx hb dJ1_numberOfTrailingZeros_7 rfl hl (by decide) rfl (fun ls hl => ?_)
    refine lv_iload_n hx hb dJ1_numberOfTrailingZeros_8 rfl (lv_at hl 0 rfl) ?_
    refine g_gt (tgt := 17) hx hb dJ1_numberOfTrailingZeros_9 (by decide) (by decide) (fun hq => ?_) (fun hq => ?_)
    · refine lv_iconst (v := zI 1) hx hb dJ1_numberOfTrailingZeros_17 (by decide +kernel) ?_
      refine lv_istore_n (lv' := [(1, .int (zI 1)), (0, .int (zI 16383))]) hx hb dJ1_numberOfTrailingZeros_18 rfl hl (by decide) rfl (fun ls hl => ?_)
      refine lv_iload_n hx hb dJ1_numberOfTrailingZeros_19 rfl (lv_at hl 1 rfl) ?_
      refine lv_ldcw (v := 65536) hx hb hown (hts _ q1896) dJ1_numberOfTrailingZeros_20 ?_
      refine lv_topx (zI 65536) (by decide +kernel) ?_
      refine g_cle (tgt := 34) hx hb dJ1_numberOfTrailingZeros_23 (by decide) (by omega) (fun hq => ?_) (fun hq => ?_)
      · refine lv_iload_n hx hb dJ1_numberOfTrailingZeros_34 rfl (lv_at hl 1 rfl) ?_
        refine lv_sipush (v := zI 256) hx hb dJ1_numberOfTrailingZeros_35 (by decide +kernel) ?_
        refine g_cle (tgt := 49) hx hb dJ1_numberOfTrailingZeros_38 (by decide) (by omega) (fun hq => ?_) (fun hq => ?_)
        · exfalso; omega
        · refine lv_iinc (v := zI 9) (lv' := [(1, .int (zI 9)), (0, .int (zI 16383))]) hx hb dJ1_numberOfTrailingZeros_41 hl (k := 0) rfl ((zI_add _ _).trans (congrArg zI (by omega))) (by decide) rfl (fun ls hl => ?_)
          refine lv_iload_n hx hb dJ1_numberOfTrailingZeros_44 rfl (lv_at hl 1 rfl) ?_
          refine lv_bipush (v := zI 8) hx hb dJ1_numberOfTrailingZeros_45 (by decide +kernel) ?_
          refine lv_iushr (v := ((zI 16383).toUInt32 >>> ((zI 8).toUInt32 &&& Int32.toUInt32 31)).toInt32) hx hb dJ1_numberOfTrailingZeros_47 rfl ?_
          refine lv_topx (zI 63) (by decide +kernel) ?_
          refine lv_istore_n (lv' := [(0, .int (zI 63)), (1, .int (zI 9))]) hx hb dJ1_numberOfTrailingZeros_48 rfl hl (by decide) rfl (fun ls hl => ?_)
          refine lv_iload_n hx hb dJ1_numberOfTrailingZeros_49 rfl (lv_at hl 0 rfl) ?_
          refine lv_bipush (v := zI 16) hx hb dJ1_numberOfTrailingZeros_50 (by decide +kernel) ?_
          refine g_cle (tgt := 62) hx hb dJ1_numberOfTrailingZeros_52 (by decide) (by omega) (fun hq => ?_) (fun hq => ?_)
          · exfalso; omega
          · refine lv_iinc (v := zI 13) (lv' := [(1, .int (zI 13)), (0, .int (zI 63))]) hx hb dJ1_numberOfTrailingZeros_55 hl (k := 1) rfl ((zI_add _ _).trans (congrArg zI (by omega))) (by decide) rfl (fun ls hl => ?_)
            refine lv_iload_n hx hb dJ1_numberOfTrailingZeros_58 rfl (lv_at hl 1 rfl) ?_
            refine lv_iconst (v := zI 4) hx hb dJ1_numberOfTrailingZeros_59 (by decide +kernel) ?_
            refine lv_iushr (v := ((zI 63).toUInt32 >>> ((zI 4).toUInt32 &&& Int32.toUInt32 31)).toInt32) hx hb dJ1_numberOfTrailingZeros_60 rfl ?_
            refine lv_topx (zI 3) (by decide +kernel) ?_
            refine lv_istore_n (lv' := [(0, .int (zI 3)), (1, .int (zI 13))]) hx hb dJ1_numberOfTrailingZeros_61 rfl hl (by decide) rfl (fun ls hl => ?_)
            refine lv_iload_n hx hb dJ1_numberOfTrailingZeros_62 rfl (lv_at hl 0 rfl) ?_
            refine lv_iconst (v := zI 4) hx hb dJ1_numberOfTrailingZeros_63 (by decide +kernel) ?_
            refine g_cle (tgt := 74) hx hb dJ1_numberOfTrailingZeros_64 (by decide) (by omega) (fun hq => ?_) (fun hq => ?_)
            · refine lv_iload_n hx hb dJ1_numberOfTrailingZeros_74 rfl (lv_at hl 1 rfl) ?_
              refine lv_iload_n hx hb dJ1_numberOfTrailingZeros_75 rfl (lv_at hl 0 rfl) ?_
              refine lv_iconst (v := zI 1) hx hb dJ1_numberOfTrailingZeros_76 (by decide +kernel) ?_
              refine lv_iushr (v := ((zI 3).toUInt32 >>> ((zI 1).toUInt32 &&& Int32.toUInt32 31)).toInt32) hx hb dJ1_numberOfTrailingZeros_77 rfl ?_
              refine lv_topx (zI 1) (by decide +kernel) ?_
              refine g_iadd hx hb dJ1_numberOfTrailingZeros_78 ?_
              refine g_topz (y := 14) (by omega) ?_
              exact g_iret hx hb hr hlocks hG (⟨rfl, rfl, rfl, rfl⟩) ⟨Nat.le_of_ble_eq_true rfl, Nat.le_of_ble_eq_true rfl⟩ dJ1_numberOfTrailingZeros_79
            · exfalso; omega
      · exfalso; omega
    · exfalso; omega
  · subst hk9
    refine g_topz (y := 32767) (by decide) ?_
    refine lv_istore_n (lv' := [(0, .int (zI 32767))]) hx hb dJ1_numberOfTrailingZeros_7 rfl hl (by decide) rfl (fun ls hl => ?_)
    refine lv_iload_n hx hb dJ1_numberOfTrailingZeros_8 rfl (lv_at hl 0 rfl) ?_
    refine g_gt (tgt := 17) hx hb dJ1_numberOfTrailingZeros_9 (by decide) (by decide) (fun hq => ?_) (fun hq => ?_)
    · refine lv_iconst (v := zI 1) hx hb dJ1_numberOfTrailingZeros_17 (by decide +kernel) ?_
      refine lv_istore_n (lv' := [(1, .int (zI 1)), (0, .int (zI 32767))]) hx hb dJ1_numberOfTrailingZeros_18 rfl hl (by decide) rfl (fun ls hl => ?_)
      refine lv_iload_n hx hb dJ1_numberOfTrailingZeros_19 rfl (lv_at hl 1 rfl) ?_
      refine lv_ldcw (v := 65536) hx hb hown (hts _ q1896) dJ1_numberOfTrailingZeros_20 ?_
      refine lv_topx (zI 65536) (by decide +kernel) ?_
      refine g_cle (tgt := 34) hx hb dJ1_numberOfTrailingZeros_23 (by decide) (by omega) (fun hq => ?_) (fun hq => ?_)
      · refine lv_iload_n hx hb dJ1_numberOfTrailingZeros_34 rfl (lv_at hl 1 rfl) ?_
        refine lv_sipush (v := zI 256) hx hb dJ1_numberOfTrailingZeros_35 (by decide +kernel) ?_
        refine g_cle (tgt := 49) hx hb dJ1_numberOfTrailingZeros_38 (by decide) (by omega) (fun hq => ?_) (fun hq => ?_)
        · exfalso; omega
        · refine lv_iinc (v := zI 9) (lv' := [(1, .int (zI 9)), (0, .int (zI 32767))]) hx hb dJ1_numberOfTrailingZeros_41 hl (k := 0) rfl ((zI_add _ _).trans (congrArg zI (by omega))) (by decide) rfl (fun ls hl => ?_)
          refine lv_iload_n hx hb dJ1_numberOfTrailingZeros_44 rfl (lv_at hl 1 rfl) ?_
          refine lv_bipush (v := zI 8) hx hb dJ1_numberOfTrailingZeros_45 (by decide +kernel) ?_
          refine lv_iushr (v := ((zI 32767).toUInt32 >>> ((zI 8).toUInt32 &&& Int32.toUInt32 31)).toInt32) hx hb dJ1_numberOfTrailingZeros_47 rfl ?_
          refine lv_topx (zI 127) (by decide +kernel) ?_
          refine lv_istore_n (lv' := [(0, .int (zI 127)), (1, .int (zI 9))]) hx hb dJ1_numberOfTrailingZeros_48 rfl hl (by decide) rfl (fun ls hl => ?_)
          refine lv_iload_n hx hb dJ1_numberOfTrailingZeros_49 rfl (lv_at hl 0 rfl) ?_
          refine lv_bipush (v := zI 16) hx hb dJ1_numberOfTrailingZeros_50 (by decide +kernel) ?_
          refine g_cle (tgt := 62) hx hb dJ1_numberOfTrailingZeros_52 (by decide) (by omega) (fun hq => ?_) (fun hq => ?_)
          · exfalso; omega
          · refine lv_iinc (v := zI 13) (lv' := [(1, .int (zI 13)), (0, .int (zI 127))]) hx hb dJ1_numberOfTrailingZeros_55 hl (k := 1) rfl ((zI_add _ _).trans (congrArg zI (by omega))) (by decide) rfl (fun ls hl => ?_)
            refine lv_iload_n hx hb dJ1_numberOfTrailingZeros_58 rfl (lv_at hl 1 rfl) ?_
            refine lv_iconst (v := zI 4) hx hb dJ1_numberOfTrailingZeros_59 (by decide +kernel) ?_
            refine lv_iushr (v := ((zI 127).toUInt32 >>> ((zI 4).toUInt32 &&& Int32.toUInt32 31)).toInt32) hx hb dJ1_numberOfTrailingZeros_60 rfl ?_
            refine lv_topx (zI 7) (by decide +kernel) ?_
            refine lv_istore_n (lv' := [(0, .int (zI 7)), (1, .int (zI 13))]) hx hb dJ1_numberOfTrailingZeros_61 rfl hl (by decide) rfl (fun ls hl => ?_)
            refine lv_iload_n hx hb dJ1_numberOfTrailingZeros_62 rfl (lv_at hl 0 rfl) ?_
            refine lv_iconst (v := zI 4) hx hb dJ1_numberOfTrailingZeros_63 (by decide +kernel) ?_
            refine g_cle (tgt := 74) hx hb dJ1_numberOfTrailingZeros_64 (by decide) (by omega) (fun hq => ?_) (fun hq => ?_)
            · exfalso; omega
            · refine lv_iinc (v := zI 15) (lv' := [(1, .int (zI 15)), (0, .int (zI 7))]) hx hb dJ1_numberOfTrailingZeros_67 hl (k := 1) rfl ((zI_add _ _).trans (congrArg zI (by omega))) (by decide) rfl (fun ls hl => ?_)
              refine lv_iload_n hx hb dJ1_numberOfTrailingZeros_70 rfl (lv_at hl 1 rfl) ?_
              refine lv_iconst (v := zI 2) hx hb dJ1_numberOfTrailingZeros_71 (by decide +kernel) ?_
              refine lv_iushr (v := ((zI 7).toUInt32 >>> ((zI 2).toUInt32 &&& Int32.toUInt32 31)).toInt32) hx hb dJ1_numberOfTrailingZeros_72 rfl ?_
              refine lv_topx (zI 1) (by decide +kernel) ?_
              refine lv_istore_n (lv' := [(0, .int (zI 1)), (1, .int (zI 15))]) hx hb dJ1_numberOfTrailingZeros_73 rfl hl (by decide) rfl (fun ls hl => ?_)
              refine lv_iload_n hx hb dJ1_numberOfTrailingZeros_74 rfl (lv_at hl 1 rfl) ?_
              refine lv_iload_n hx hb dJ1_numberOfTrailingZeros_75 rfl (lv_at hl 0 rfl) ?_
              refine lv_iconst (v := zI 1) hx hb dJ1_numberOfTrailingZeros_76 (by decide +kernel) ?_
              refine lv_iushr (v := ((zI 1).toUInt32 >>> ((zI 1).toUInt32 &&& Int32.toUInt32 31)).toInt32) hx hb dJ1_numberOfTrailingZeros_77 rfl ?_
              refine lv_topx (zI 0) (by decide +kernel) ?_
              refine g_iadd hx hb dJ1_numberOfTrailingZeros_78 ?_
              refine g_topz (y := 15) (by omega) ?_
              exact g_iret hx hb hr hlocks hG (⟨rfl, rfl, rfl, rfl⟩) ⟨Nat.le_of_ble_eq_true rfl, Nat.le_of_ble_eq_true rfl⟩ dJ1_numberOfTrailingZeros_79
      · exfalso; omega
    · exfalso; omega
  · subst hk9
    refine g_topz (y := 65535) (by decide) ?_
    refine lv_istore_n (lv' := [(0, .int (zI 65535))]) hx hb dJ1_numberOfTrailingZeros_7 rfl hl (by decide) rfl (fun ls hl => ?_)
    refine lv_iload_n hx hb dJ1_numberOfTrailingZeros_8 rfl (lv_at hl 0 rfl) ?_
    refine g_gt (tgt := 17) hx hb dJ1_numberOfTrailingZeros_9 (by decide) (by decide) (fun hq => ?_) (fun hq => ?_)
    · refine lv_iconst (v := zI 1) hx hb dJ1_numberOfTrailingZeros_17 (by decide +kernel) ?_
      refine lv_istore_n (lv' := [(1, .int (zI 1)), (0, .int (zI 65535))]) hx hb dJ1_numberOfTrailingZeros_18 rfl hl (by decide) rfl (fun ls hl => ?_)
      refine lv_iload_n hx hb dJ1_numberOfTrailingZeros_19 rfl (lv_at hl 1 rfl) ?_
      refine lv_ldcw (v := 65536) hx hb hown (hts _ q1896) dJ1_numberOfTrailingZeros_20 ?_
      refine lv_topx (zI 65536) (by decide +kernel) ?_
      refine g_cle (tgt := 34) hx hb dJ1_numberOfTrailingZeros_23 (by decide) (by omega) (fun hq => ?_) (fun hq => ?_)
      · refine lv_iload_n hx hb dJ1_numberOfTrailingZeros_34 rfl (lv_at hl 1 rfl) ?_
        refine lv_sipush (v := zI 256) hx hb dJ1_numberOfTrailingZeros_35 (by decide +kernel) ?_
        refine g_cle (tgt := 49) hx hb dJ1_numberOfTrailingZeros_38 (by decide) (by omega) (fun hq => ?_) (fun hq => ?_)
        · exfalso; omega
        · refine lv_iinc (v := zI 9) (lv' := [(1, .int (zI 9)), (0, .int (zI 65535))]) hx hb dJ1_numberOfTrailingZeros_41 hl (k := 0) rfl ((zI_add _ _).trans (congrArg zI (by omega))) (by decide) rfl (fun ls hl => ?_)
          refine lv_iload_n hx hb dJ1_numberOfTrailingZeros_44 rfl (lv_at hl 1 rfl) ?_
          refine lv_bipush (v := zI 8) hx hb dJ1_numberOfTrailingZeros_45 (by decide +kernel) ?_
          refine lv_iushr (v := ((zI 65535).toUInt32 >>> ((zI 8).toUInt32 &&& Int32.toUInt32 31)).toInt32) hx hb dJ1_numberOfTrailingZeros_47 rfl ?_
          refine lv_topx (zI 255) (by decide +kernel) ?_
          refine lv_istore_n (lv' := [(0, .int (zI 255)), (1, .int (zI 9))]) hx hb dJ1_numberOfTrailingZeros_48 rfl hl (by decide) rfl (fun ls hl => ?_)
          refine lv_iload_n hx hb dJ1_numberOfTrailingZeros_49 rfl (lv_at hl 0 rfl) ?_
          refine lv_bipush (v := zI 16) hx hb dJ1_numberOfTrailingZeros_50 (by decide +kernel) ?_
          refine g_cle (tgt := 62) hx hb dJ1_numberOfTrailingZeros_52 (by decide) (by omega) (fun hq => ?_) (fun hq => ?_)
          · exfalso; omega
          · refine lv_iinc (v := zI 13) (lv' := [(1, .int (zI 13)), (0, .int (zI 255))]) hx hb dJ1_numberOfTrailingZeros_55 hl (k := 1) rfl ((zI_add _ _).trans (congrArg zI (by omega))) (by decide) rfl (fun ls hl => ?_)
            refine lv_iload_n hx hb dJ1_numberOfTrailingZeros_58 rfl (lv_at hl 1 rfl) ?_
            refine lv_iconst (v := zI 4) hx hb dJ1_numberOfTrailingZeros_59 (by decide +kernel) ?_
            refine lv_iushr (v := ((zI 255).toUInt32 >>> ((zI 4).toUInt32 &&& Int32.toUInt32 31)).toInt32) hx hb dJ1_numberOfTrailingZeros_60 rfl ?_
            refine lv_topx (zI 15) (by decide +kernel) ?_
            refine lv_istore_n (lv' := [(0, .int (zI 15)), (1, .int (zI 13))]) hx hb dJ1_numberOfTrailingZeros_61 rfl hl (by decide) rfl (fun ls hl => ?_)
            refine lv_iload_n hx hb dJ1_numberOfTrailingZeros_62 rfl (lv_at hl 0 rfl) ?_
            refine lv_iconst (v := zI 4) hx hb dJ1_numberOfTrailingZeros_63 (by decide +kernel) ?_
            refine g_cle (tgt := 74) hx hb dJ1_numberOfTrailingZeros_64 (by decide) (by omega) (fun hq => ?_) (fun hq => ?_)
            · exfalso; omega
            · refine lv_iinc (v := zI 15) (lv' := [(1, .int (zI 15)), (0, .int (zI 15))]) hx hb dJ1_numberOfTrailingZeros_67 hl (k := 1) rfl ((zI_add _ _).trans (congrArg zI (by omega))) (by decide) rfl (fun ls hl => ?_)
              refine lv_iload_n hx hb dJ1_numberOfTrailingZeros_70 rfl (lv_at hl 1 rfl) ?_
              refine lv_iconst (v := zI 2) hx hb dJ1_numberOfTrailingZeros_71 (by decide +kernel) ?_
              refine lv_iushr (v := ((zI 15).toUInt32 >>> ((zI 2).toUInt32 &&& Int32.toUInt32 31)).toInt32) hx hb dJ1_numberOfTrailingZeros_72 rfl ?_
              refine lv_topx (zI 3) (by decide +kernel) ?_
              refine lv_istore_n (lv' := [(0, .int (zI 3)), (1, .int (zI 15))]) hx hb dJ1_numberOfTrailingZeros_73 rfl hl (by decide) rfl (fun ls hl => ?_)
              refine lv_iload_n hx hb dJ1_numberOfTrailingZeros_74 rfl (lv_at hl 1 rfl) ?_
              refine lv_iload_n hx hb dJ1_numberOfTrailingZeros_75 rfl (lv_at hl 0 rfl) ?_
              refine lv_iconst (v := zI 1) hx hb dJ1_numberOfTrailingZeros_76 (by decide +kernel) ?_
              refine lv_iushr (v := ((zI 3).toUInt32 >>> ((zI 1).toUInt32 &&& Int32.toUInt32 31)).toInt32) hx hb dJ1_numberOfTrailingZeros_77 rfl ?_
              refine lv_topx (zI 1) (by decide +kernel) ?_
              refine g_iadd hx hb dJ1_numberOfTrailingZeros_78 ?_
              refine g_topz (y := 16) (by omega) ?_
              exact g_iret hx hb hr hlocks hG (⟨rfl, rfl, rfl, rfl⟩) ⟨Nat.le_of_ble_eq_true rfl, Nat.le_of_ble_eq_true rfl⟩ dJ1_numberOfTrailingZeros_79
      · exfalso; omega
    · exfalso; omega
  · subst hk9
    refine g_topz (y := 131071) (by decide) ?_
    refine lv_istore_n (lv' := [(0, .int (zI 131071))]) hx hb dJ1_numberOfTrailingZeros_7 rfl hl (by decide) rfl (fun ls hl => ?_)
    refine lv_iload_n hx hb dJ1_numberOfTrailingZeros_8 rfl (lv_at hl 0 rfl) ?_
    refine g_gt (tgt := 17) hx hb dJ1_numberOfTrailingZeros_9 (by decide) (by decide) (fun hq => ?_) (fun hq => ?_)
    · refine lv_iconst (v := zI 1) hx hb dJ1_numberOfTrailingZeros_17 (by decide +kernel) ?_
      refine lv_istore_n (lv' := [(1, .int (zI 1)), (0, .int (zI 131071))]) hx hb dJ1_numberOfTrailingZeros_18 rfl hl (by decide) rfl (fun ls hl => ?_)
      refine lv_iload_n hx hb dJ1_numberOfTrailingZeros_19 rfl (lv_at hl 1 rfl) ?_
      refine lv_ldcw (v := 65536) hx hb hown (hts _ q1896) dJ1_numberOfTrailingZeros_20 ?_
      refine lv_topx (zI 65536) (by decide +kernel) ?_
      refine g_cle (tgt := 34) hx hb dJ1_numberOfTrailingZeros_23 (by decide) (by omega) (fun hq => ?_) (fun hq => ?_)
      · exfalso; omega
      · refine lv_iinc (v := zI 17) (lv' := [(1, .int (zI 17)), (0, .int (zI 131071))]) hx hb dJ1_numberOfTrailingZeros_26 hl (k := 0) rfl ((zI_add _ _).trans (congrArg zI (by omega))) (by decide) rfl (fun ls hl => ?_)
        refine lv_iload_n hx hb dJ1_numberOfTrailingZeros_29 rfl (lv_at hl 1 rfl) ?_
        refine lv_bipush (v := zI 16) hx hb dJ1_numberOfTrailingZeros_30 (by decide +kernel) ?_
        refine lv_iushr (v := ((zI 131071).toUInt32 >>> ((zI 16).toUInt32 &&& Int32.toUInt32 31)).toInt32) hx hb dJ1_numberOfTrailingZeros_32 rfl ?_
        refine lv_topx (zI 1) (by decide +kernel) ?_
        refine lv_istore_n (lv' := [(0, .int (zI 1)), (1, .int (zI 17))]) hx hb dJ1_numberOfTrailingZeros_33 rfl hl (by decide) rfl (fun ls hl => ?_)
        refine lv_iload_n hx hb dJ1_numberOfTrailingZeros_34 rfl (lv_at hl 0 rfl) ?_
        refine lv_sipush (v := zI 256) hx hb dJ1_numberOfTrailingZeros_35 (by decide +kernel) ?_
        refine g_cle (tgt := 49) hx hb dJ1_numberOfTrailingZeros_38 (by decide) (by omega) (fun hq => ?_) (fun hq => ?_)
        · refine lv_iload_n hx hb dJ1_numberOfTrailingZeros_49 rfl (lv_at hl 0 rfl) ?_
          refine lv_bipush (v := zI 16) hx hb dJ1_numberOfTrailingZeros_50 (by decide +kernel) ?_
          refine g_cle (tgt := 62) hx hb dJ1_numberOfTrailingZeros_52 (by decide) (by omega) (fun hq => ?_) (fun hq => ?_)
          · refine lv_iload_n hx hb dJ1_numberOfTrailingZeros_62 rfl (lv_at hl 0 rfl) ?_
            refine lv_iconst (v := zI 4) hx hb dJ1_numberOfTrailingZeros_63 (by decide +kernel) ?_
            refine g_cle (tgt := 74) hx hb dJ1_numberOfTrailingZeros_64 (by decide) (by omega) (fun hq => ?_) (fun hq => ?_)
            · refine lv_iload_n hx hb dJ1_numberOfTrailingZeros_74 rfl (lv_at hl 1 rfl) ?_
              refine lv_iload_n hx hb dJ1_numberOfTrailingZeros_75 rfl (lv_at hl 0 rfl) ?_
              refine lv_iconst (v := zI 1) hx hb dJ1_numberOfTrailingZeros_76 (by decide +kernel) ?_
              refine lv_iushr (v := ((zI 1).toUInt32 >>> ((zI 1).toUInt32 &&& Int32.toUInt32 31)).toInt32) hx hb dJ1_numberOfTrailingZeros_77 rfl ?_
              refine lv_topx (zI 0) (by decide +kernel) ?_
              refine g_iadd hx hb dJ1_numberOfTrailingZeros_78 ?_
              refine g_topz (y := 17) (by omega) ?_
              exact g_iret hx hb hr hlocks hG (⟨rfl, rfl, rfl, rfl⟩) ⟨Nat.le_of_ble_eq_true rfl, Nat.le_of_ble_eq_true rfl⟩ dJ1_numberOfTrailingZeros_79
            · exfalso; omega
          · exfalso; omega
        · exfalso; omega
    · exfalso; omega
  · subst hk9
    refine g_topz (y := 262143) (by decide) ?_
    refine lv_istore_n (lv' := [(0, .int (zI 262143))]) hx hb dJ1_numberOfTrailingZeros_7 rfl hl (by decide) rfl (fun ls hl => ?_)
    refine lv_iload_n hx hb dJ1_numberOfTrailingZeros_8 rfl (lv_at hl 0 rfl) ?_
    refine g_gt (tgt := 17) hx hb dJ1_numberOfTrailingZeros_9 (by decide) (by decide) (fun hq => ?_) (fun hq => ?_)
    · refine lv_iconst (v := zI 1) hx hb dJ1_numberOfTrailingZeros_17 (by decide +kernel) ?_
      refine lv_istore_n (lv' := [(1, .int (zI 1)), (0, .int (zI 262143))]) hx hb dJ1_numberOfTrailingZeros_18 rfl hl (by decide) rfl (fun ls hl => ?_)
      refine lv_iload_n hx hb dJ1_numberOfTrailingZeros_19 rfl (lv_at hl 1 rfl) ?_
      refine lv_ldcw (v := 65536) hx hb hown (hts _ q1896) dJ1_numberOfTrailingZeros_20 ?_
      refine lv_topx (zI 65536) (by decide +kernel) ?_
      refine g_cle (tgt := 34) hx hb dJ1_numberOfTrailingZeros_23 (by decide) (by omega) (fun hq => ?_) (fun hq => ?_)
      · exfalso; omega
      · refine lv_iinc (v := zI 17) (lv' := [(1, .int (zI 17)), (0, .int (zI 262143))]) hx hb dJ1_numberOfTrailingZeros_26 hl (k := 0) rfl ((zI_add _ _).trans (congrArg zI (by omega))) (by decide) rfl (fun ls hl => ?_)
        refine lv_iload_n hx hb dJ1_numberOfTrailingZeros_29 rfl (lv_at hl 1 rfl) ?_
        refine lv_bipush (v := zI 16) hx hb dJ1_numberOfTrailingZeros_30 (by decide +kernel) ?_
        refine lv_iushr (v := ((zI 262143).toUInt32 >>> ((zI 16).toUInt32 &&& Int32.toUInt32 31)).toInt32) hx hb dJ1_numberOfTrailingZeros_32 rfl ?_
        refine lv_topx (zI 3) (by decide +kernel) ?_
        refine lv_istore_n (lv' := [(0, .int (zI 3)), (1, .int (zI 17))]) hx hb dJ1_numberOfTrailingZeros_33 rfl hl (by decide) rfl (fun ls hl => ?_)
        refine lv_iload_n hx hb dJ1_numberOfTrailingZeros_34 rfl (lv_at hl 0 rfl) ?_
        refine lv_sipush (v := zI 256) hx hb dJ1_numberOfTrailingZeros_35 (by decide +kernel) ?_
        refine g_cle (tgt := 49) hx hb dJ1_numberOfTrailingZeros_38 (by decide) (by omega) (fun hq => ?_) (fun hq => ?_)
        · refine lv_iload_n hx hb dJ1_numberOfTrailingZeros_49 rfl (lv_at hl 0 rfl) ?_
          refine lv_bipush (v := zI 16) hx hb dJ1_numberOfTrailingZeros_50 (by decide +kernel) ?_
          refine g_cle (tgt := 62) hx hb dJ1_numberOfTrailingZeros_52 (by decide) (by omega) (fun hq => ?_) (fun hq => ?_)
          · refine lv_iload_n hx hb dJ1_numberOfTrailingZeros_62 rfl (lv_at hl 0 rfl) ?_
            refine lv_iconst (v := zI 4) hx hb dJ1_numberOfTrailingZeros_63 (by decide +kernel) ?_
            refine g_cle (tgt := 74) hx hb dJ1_numberOfTrailingZeros_64 (by decide) (by omega) (fun hq => ?_) (fun hq => ?_)
            · refine lv_iload_n hx hb dJ1_numberOfTrailingZeros_74 rfl (lv_at hl 1 rfl) ?_
              refine lv_iload_n hx hb dJ1_numberOfTrailingZeros_75 rfl (lv_at hl 0 rfl) ?_
              refine lv_iconst (v := zI 1) hx hb dJ1_numberOfTrailingZeros_76 (by decide +kernel) ?_
              refine lv_iushr (v := ((zI 3).toUInt32 >>> ((zI 1).toUInt32 &&& Int32.toUInt32 31)).toInt32) hx hb dJ1_numberOfTrailingZeros_77 rfl ?_
              refine lv_topx (zI 1) (by decide +kernel) ?_
              refine g_iadd hx hb dJ1_numberOfTrailingZeros_78 ?_
              refine g_topz (y := 18) (by omega) ?_
              exact g_iret hx hb hr hlocks hG (⟨rfl, rfl, rfl, rfl⟩) ⟨Nat.le_of_ble_eq_true rfl, Nat.le_of_ble_eq_true rfl⟩ dJ1_numberOfTrailingZeros_79
            · exfalso; omega
          · exfalso; omega
        · exfalso; omega
    · exfalso; omega
  · subst hk9
    refine g_topz (y := 524287) (by decide) ?_
    refine lv_istore_n (lv' := [(0, .int (zI 524287))]) hx hb dJ1_numberOfTrailingZeros_7 rfl hl (by decide) rfl (fun ls hl => ?_)
    refine lv_iload_n hx hb dJ1_numberOfTrailingZeros_8 rfl (lv_at hl 0 rfl) ?_
    refine g_gt (tgt := 17) hx hb dJ1_numberOfTrailingZeros_9 (by decide) (by decide) (fun hq => ?_) (fun hq => ?_)
    · refine lv_iconst (v := zI 1) hx hb dJ1_numberOfTrailingZeros_17 (by decide +kernel) ?_
      refine lv_istore_n (lv' := [(1, .int (zI 1)), (0, .int (zI 524287))]) hx hb dJ1_numberOfTrailingZeros_18 rfl hl (by decide) rfl (fun ls hl => ?_)
      refine lv_iload_n hx hb dJ1_numberOfTrailingZeros_19 rfl (lv_at hl 1 rfl) ?_
      refine lv_ldcw (v := 65536) hx hb hown (hts _ q1896) dJ1_numberOfTrailingZeros_20 ?_
      refine lv_topx (zI 65536) (by decide +kernel) ?_
      refine g_cle (tgt := 34) hx hb dJ1_numberOfTrailingZeros_23 (by decide) (by omega) (fun hq => ?_) (fun hq => ?_)
      · exfalso; omega
      · refine lv_iinc (v := zI 17) (lv' := [(1, .int (zI 17)), (0, .int (zI 524287))]) hx hb dJ1_numberOfTrailingZeros_26 hl (k := 0) rfl ((zI_add _ _).trans (congrArg zI (by omega))) (by decide) rfl (fun ls hl => ?_)
        refine lv_iload_n hx hb dJ1_numberOfTrailingZeros_29 rfl (lv_at hl 1 rfl) ?_
        refine lv_bipush (v := zI 16) hx hb dJ1_numberOfTrailingZeros_30 (by decide +kernel) ?_
        refine lv_iushr (v := ((zI 524287).toUInt32 >>> ((zI 16).toUInt32 &&& Int32.toUInt32 31)).toInt32) hx hb dJ1_numberOfTrailingZeros_32 rfl ?_
        refine lv_topx (zI 7) (by decide +kernel) ?_
        refine lv_istore_n (lv' := [(0, .int (zI 7)), (1, .int (zI 17))]) hx hb dJ1_numberOfTrailingZeros_33 rfl hl (by decide) rfl (fun ls hl => ?_)
        refine lv_iload_n hx hb dJ1_numberOfTrailingZeros_34 rfl (lv_at hl 0 rfl) ?_
        refine lv_sipush (v := zI 256) hx hb dJ1_numberOfTrailingZeros_35 (by decide +kernel) ?_
        refine g_cle (tgt := 49) hx hb dJ1_numberOfTrailingZeros_38 (by decide) (by omega) (fun hq => ?_) (fun hq => ?_)
        · refine lv_iload_n hx hb dJ1_numberOfTrailingZeros_49 rfl (lv_at hl 0 rfl) ?_
          refine lv_bipush (v := zI 16) hx hb dJ1_numberOfTrailingZeros_50 (by decide +kernel) ?_
          refine g_cle (tgt := 62) hx hb dJ1_numberOfTrailingZeros_52 (by decide) (by omega) (fun hq => ?_) (fun hq => ?_)
          · refine lv_iload_n hx hb dJ1_numberOfTrailingZeros_62 rfl (lv_at hl 0 rfl) ?_
            refine lv_iconst (v := zI 4) hx hb dJ1_numberOfTrailingZeros_63 (by decide +kernel) ?_
            refine g_cle (tgt := 74) hx hb dJ1_numberOfTrailingZeros_64 (by decide) (by omega) (fun hq => ?_) (fun hq => ?_)
            · exfalso; omega
            · refine lv_iinc (v := zI 19) (lv' := [(1, .int (zI 19)), (0, .int (zI 7))]) hx hb dJ1_numberOfTrailingZeros_67 hl (k := 1) rfl ((zI_add _ _).trans (congrArg zI (by omega))) (by decide) rfl (fun ls hl => ?_)
              refine lv_iload_n hx hb dJ1_numberOfTrailingZeros_70 rfl (lv_at hl 1 rfl) ?_
              refine lv_iconst (v := zI 2) hx hb dJ1_numberOfTrailingZeros_71 (by decide +kernel) ?_
              refine lv_iushr (v := ((zI 7).toUInt32 >>> ((zI 2).toUInt32 &&& Int32.toUInt32 31)).toInt32) hx hb dJ1_numberOfTrailingZeros_72 rfl ?_
              refine lv_topx (zI 1) (by decide +kernel) ?_
              refine lv_istore_n (lv' := [(0, .int (zI 1)), (1, .int (zI 19))]) hx hb dJ1_numberOfTrailingZeros_73 rfl hl (by decide) rfl (fun ls hl => ?_)
              refine lv_iload_n hx hb dJ1_numberOfTrailingZeros_74 rfl (lv_at hl 1 rfl) ?_
              refine lv_iload_n hx hb dJ1_numberOfTrailingZeros_75 rfl (lv_at hl 0 rfl) ?_
              refine lv_iconst (v := zI 1) hx hb dJ1_numberOfTrailingZeros_76 (by decide +kernel) ?_
              refine lv_iushr (v := ((zI 1).toUInt32 >>> ((zI 1).toUInt32 &&& Int32.toUInt32 31)).toInt32) hx hb dJ1_numberOfTrailingZeros_77 rfl ?_
              refine lv_topx (zI 0) (by decide +kernel) ?_
              refine g_iadd hx hb dJ1_numberOfTrailingZeros_78 ?_
              refine g_topz (y := 19) (by omega) ?_
              exact g_iret hx hb hr hlocks hG (⟨rfl, rfl, rfl, rfl⟩) ⟨Nat.le_of_ble_eq_true rfl, Nat.le_of_ble_eq_true rfl⟩ dJ1_numberOfTrailingZeros_79
          · exfalso; omega
        · exfalso; omega
    · exfalso; omega
  · subst hk9
    refine g_topz (y := 1048575) (by decide) ?_
    refine lv_istore_n (lv' := [(0, .int (zI 1048575))]) hx hb dJ1_numberOfTrailingZeros_7 rfl hl (by decide) rfl (fun ls hl => ?_)
    refine lv_iload_n hx hb dJ1_numberOfTrailingZeros_8 rfl (lv_at hl 0 rfl) ?_
    refine g_gt (tgt := 17) hx hb dJ1_numberOfTrailingZeros_9 (by decide) (by decide) (fun hq => ?_) (fun hq => ?_)
    · refine lv_iconst (v := zI 1) hx hb dJ1_numberOfTrailingZeros_17 (by decide +kernel) ?_
      refine lv_istore_n (lv' := [(1, .int (zI 1)), (0, .int (zI 1048575))]) hx hb dJ1_numberOfTrailingZeros_18 rfl hl (by decide) rfl (fun ls hl => ?_)
      refine lv_iload_n hx hb dJ1_numberOfTrailingZeros_19 rfl (lv_at hl 1 rfl) ?_
      refine lv_ldcw (v := 65536) hx hb hown (hts _ q1896) dJ1_numberOfTrailingZeros_20 ?_
      refine lv_topx (zI 65536) (by decide +kernel) ?_
      refine g_cle (tgt := 34) hx hb dJ1_numberOfTrailingZeros_23 (by decide) (by omega) (fun hq => ?_) (fun hq => ?_)
      · exfalso; omega
      · refine lv_iinc (v := zI 17) (lv' := [(1, .int (zI 17)), (0, .int (zI 1048575))]) hx hb dJ1_numberOfTrailingZeros_26 hl (k := 0) rfl ((zI_add _ _).trans (congrArg zI (by omega))) (by decide) rfl (fun ls hl => ?_)
        refine lv_iload_n hx hb dJ1_numberOfTrailingZeros_29 rfl (lv_at hl 1 rfl) ?_
        refine lv_bipush (v := zI 16) hx hb dJ1_numberOfTrailingZeros_30 (by decide +kernel) ?_
        refine lv_iushr (v := ((zI 1048575).toUInt32 >>> ((zI 16).toUInt32 &&& Int32.toUInt32 31)).toInt32) hx hb dJ1_numberOfTrailingZeros_32 rfl ?_
        refine lv_topx (zI 15) (by decide +kernel) ?_
        refine lv_istore_n (lv' := [(0, .int (zI 15)), (1, .int (zI 17))]) hx hb dJ1_numberOfTrailingZeros_33 rfl hl (by decide) rfl (fun ls hl => ?_)
        refine lv_iload_n hx hb dJ1_numberOfTrailingZeros_34 rfl (lv_at hl 0 rfl) ?_
        refine lv_sipush (v := zI 256) hx hb dJ1_numberOfTrailingZeros_35 (by decide +kernel) ?_
        refine g_cle (tgt := 49) hx hb dJ1_numberOfTrailingZeros_38 (by decide) (by omega) (fun hq => ?_) (fun hq => ?_)
        · refine lv_iload_n hx hb dJ1_numberOfTrailingZeros_49 rfl (lv_at hl 0 rfl) ?_
          refine lv_bipush (v := zI 16) hx hb dJ1_numberOfTrailingZeros_50 (by decide +kernel) ?_
          refine g_cle (tgt := 62) hx hb dJ1_numberOfTrailingZeros_52 (by decide) (by omega) (fun hq => ?_) (fun hq => ?_)
          · refine lv_iload_n hx hb dJ1_numberOfTrailingZeros_62 rfl (lv_at hl 0 rfl) ?_
            refine lv_iconst (v := zI 4) hx hb dJ1_numberOfTrailingZeros_63 (by decide +kernel) ?_
            refine g_cle (tgt := 74) hx hb dJ1_numberOfTrailingZeros_64 (by decide) (by omega) (fun hq => ?_) (fun hq => ?_)
            · exfalso; omega
            · refine lv_iinc (v := zI 19) (lv' := [(1, .int (zI 19)), (0, .int (zI 15))]) hx hb dJ1_numberOfTrailingZeros_67 hl (k := 1) rfl ((zI_add _ _).trans (congrArg zI (by omega))) (by decide) rfl (fun ls hl => ?_)
              refine lv_iload_n hx hb dJ1_numberOfTrailingZeros_70 rfl (lv_at hl 1 rfl) ?_
              refine lv_iconst (v := zI 2) hx hb dJ1_numberOfTrailingZeros_71 (by decide +kernel) ?_
              refine lv_iushr (v := ((zI 15).toUInt32 >>> ((zI 2).toUInt32 &&& Int32.toUInt32 31)).toInt32) hx hb dJ1_numberOfTrailingZeros_72 rfl ?_
              refine lv_topx (zI 3) (by decide +kernel) ?_
              refine lv_istore_n (lv' := [(0, .int (zI 3)), (1, .int (zI 19))]) hx hb dJ1_numberOfTrailingZeros_73 rfl hl (by decide) rfl (fun ls hl => ?_)
              refine lv_iload_n hx hb dJ1_numberOfTrailingZeros_74 rfl (lv_at hl 1 rfl) ?_
              refine lv_iload_n hx hb dJ1_numberOfTrailingZeros_75 rfl (lv_at hl 0 rfl) ?_
              refine lv_iconst (v := zI 1) hx hb dJ1_numberOfTrailingZeros_76 (by decide +kernel) ?_
              refine lv_iushr (v := ((zI 3).toUInt32 >>> ((zI 1).toUInt32 &&& Int32.toUInt32 31)).toInt32) hx hb dJ1_numberOfTrailingZeros_77 rfl ?_
              refine lv_topx (zI 1) (by decide +kernel) ?_
              refine g_iadd hx hb dJ1_numberOfTrailingZeros_78 ?_
              refine g_topz (y := 20) (by omega) ?_
              exact g_iret hx hb hr hlocks hG (⟨rfl, rfl, rfl, rfl⟩) ⟨Nat.le_of_ble_eq_true rfl, Nat.le_of_ble_eq_true rfl⟩ dJ1_numberOfTrailingZeros_79
          · exfalso; omega
        · exfalso; omega
    · exfalso; omega
  · subst hk9
    refine g_topz (y := 2097151) (by decide) ?_
    refine lv_istore_n (lv' := [(0, .int (zI 2097151))]) hx hb dJ1_numberOfTrailingZeros_7 rfl hl (by decide) rfl (fun ls hl => ?_)
    refine lv_iload_n hx hb dJ1_numberOfTrailingZeros_8 rfl (lv_at hl 0 rfl) ?_
    refine g_gt (tgt := 17) hx hb dJ1_numberOfTrailingZeros_9 (by decide) (by decide) (fun hq => ?_) (fun hq => ?_)
    · refine lv_iconst (v := zI 1) hx hb dJ1_numberOfTrailingZeros_17 (by decide +kernel) ?_
      refine lv_istore_n (lv' := [(1, .int (zI 1)), (0, .int (zI 2097151))]) hx hb dJ1_numberOfTrailingZeros_18 rfl hl (by decide) rfl (fun ls hl => ?_)
      refine lv_iload_n hx hb dJ1_numberOfTrailingZeros_19 rfl (lv_at hl 1 rfl) ?_
      refine lv_ldcw (v := 65536) hx hb hown (hts _ q1896) dJ1_numberOfTrailingZeros_20 ?_
      refine lv_topx (zI 65536) (by decide +kernel) ?_
      refine g_cle (tgt := 34) hx hb dJ1_numberOfTrailingZeros_23 (by decide) (by omega) (fun hq => ?_) (fun hq => ?_)
      · exfalso; omega
      · refine lv_iinc (v := zI 17) (lv' := [(1, .int (zI 17)), (0, .int (zI 2097151))]) hx hb dJ1_numberOfTrailingZeros_26 hl (k := 0) rfl ((zI_add _ _).trans (congrArg zI (by omega))) (by decide) rfl (fun ls hl => ?_)
        refine lv_iload_n hx hb dJ1_numberOfTrailingZeros_29 rfl (lv_at hl 1 rfl) ?_
        refine lv_bipush (v := zI 16) hx hb dJ1_numberOfTrailingZeros_30 (by decide +kernel) ?_
        refine lv_iushr (v := ((zI 2097151).toUInt32 >>> ((zI 16).toUInt32 &&& Int32.toUInt32 31)).toInt32) hx hb dJ1_numberOfTrailingZeros_32 rfl ?_
        refine lv_topx (zI 31) (by decide +kernel) ?_
        refine lv_istore_n (lv' := [(0, .int (zI 31)), (1, .int (zI 17))]) hx hb dJ1_numberOfTrailingZeros_33 rfl hl (by decide) rfl (fun ls hl => ?_)
        refine lv_iload_n hx hb dJ1_numberOfTrailingZeros_34 rfl (lv_at hl 0 rfl) ?_
        refine lv_sipush (v := zI 256) hx hb dJ1_numberOfTrailingZeros_35 (by decide +kernel) ?_
        refine g_cle (tgt := 49) hx hb dJ1_numberOfTrailingZeros_38 (by decide) (by omega) (fun hq => ?_) (fun hq => ?_)
        · refine lv_iload_n hx hb dJ1_numberOfTrailingZeros_49 rfl (lv_at hl 0 rfl) ?_
          refine lv_bipush (v := zI 16) hx hb dJ1_numberOfTrailingZeros_50 (by decide +kernel) ?_
          refine g_cle (tgt := 62) hx hb dJ1_numberOfTrailingZeros_52 (by decide) (by omega) (fun hq => ?_) (fun hq => ?_)
          · exfalso; omega
          · refine lv_iinc (v := zI 21) (lv' := [(1, .int (zI 21)), (0, .int (zI 31))]) hx hb dJ1_numberOfTrailingZeros_55 hl (k := 1) rfl ((zI_add _ _).trans (congrArg zI (by omega))) (by decide) rfl (fun ls hl => ?_)
            refine lv_iload_n hx hb dJ1_numberOfTrailingZeros_58 rfl (lv_at hl 1 rfl) ?_
            refine lv_iconst (v := zI 4) hx hb dJ1_numberOfTrailingZeros_59 (by decide +kernel) ?_
            refine lv_iushr (v := ((zI 31).toUInt32 >>> ((zI 4).toUInt32 &&& Int32.toUInt32 31)).toInt32) hx hb dJ1_numberOfTrailingZeros_60 rfl ?_
            refine lv_topx (zI 1) (by decide +kernel) ?_
            refine lv_istore_n (lv' := [(0, .int (zI 1)), (1, .int (zI 21))]) hx hb dJ1_numberOfTrailingZeros_61 rfl hl (by decide) rfl (fun ls hl => ?_)
            refine lv_iload_n hx hb dJ1_numberOfTrailingZeros_62 rfl (lv_at hl 0 rfl) ?_
            refine lv_iconst (v := zI 4) hx hb dJ1_numberOfTrailingZeros_63 (by decide +kernel) ?_
            refine g_cle (tgt := 74) hx hb dJ1_numberOfTrailingZeros_64 (by decide) (by omega) (fun hq => ?_) (fun hq => ?_)
            · refine lv_iload_n hx hb dJ1_numberOfTrailingZeros_74 rfl (lv_at hl 1 rfl) ?_
              refine lv_iload_n hx hb dJ1_numberOfTrailingZeros_75 rfl (lv_at hl 0 rfl) ?_
              refine lv_iconst (v := zI 1) hx hb dJ1_numberOfTrailingZeros_76 (by decide +kernel) ?_
              refine lv_iushr (v := ((zI 1).toUInt32 >>> ((zI 1).toUInt32 &&& Int32.toUInt32 31)).toInt32) hx hb dJ1_numberOfTrailingZeros_77 rfl ?_
              refine lv_topx (zI 0) (by decide +kernel) ?_
              refine g_iadd hx hb dJ1_numberOfTrailingZeros_78 ?_
              refine g_topz (y := 21) (by omega) ?_
              exact g_iret hx hb hr hlocks hG (⟨rfl, rfl, rfl, rfl⟩) ⟨Nat.le_of_ble_eq_true rfl, Nat.le_of_ble_eq_true rfl⟩ dJ1_numberOfTrailingZeros_79
            · exfalso; omega
        · exfalso; omega
    · exfalso; omega
  · subst hk9
    refine g_topz (y := 4194303) (by decide) ?_
    refine lv_istore_n (lv' := [(0, .int (zI 4194303))]) hx hb dJ1_numberOfTrailingZeros_7 rfl hl (by decide) rfl (fun ls hl => ?_)
    refine lv_iload_n hx hb dJ1_numberOfTrailingZeros_8 rfl (lv_at hl 0 rfl) ?_
    refine g_gt (tgt := 17) hx hb dJ1_numberOfTrailingZeros_9 (by decide) (by decide) (fun hq => ?_) (fun hq => ?_)
    · refine lv_iconst (v := zI 1) hx hb dJ1_numberOfTrailingZeros_17 (by decide +kernel) ?_
      refine lv_istore_n (lv' := [(1, .int (zI 1)), (0, .int (zI 4194303))]) hx hb dJ1_numberOfTrailingZeros_18 rfl hl (by decide) rfl (fun ls hl => ?_)
      refine lv_iload_n hx hb dJ1_numberOfTrailingZeros_19 rfl (lv_at hl 1 rfl) ?_
      refine lv_ldcw (v := 65536) hx hb hown (hts _ q1896) dJ1_numberOfTrailingZeros_20 ?_
      refine lv_topx (zI 65536) (by decide +kernel) ?_
      refine g_cle (tgt := 34) hx hb dJ1_numberOfTrailingZeros_23 (by decide) (by omega) (fun hq => ?_) (fun hq => ?_)
      · exfalso; omega
      · refine lv_iinc (v := zI 17) (lv' := [(1, .int (zI 17)), (0, .int (zI 4194303))]) hx hb dJ1_numberOfTrailingZeros_26 hl (k := 0) rfl ((zI_add _ _).trans (congrArg zI (by omega))) (by decide) rfl (fun ls hl => ?_)
        refine lv_iload_n hx hb dJ1_numberOfTrailingZeros_29 rfl (lv_at hl 1 rfl) ?_
        refine lv_bipush (v := zI 16) hx hb dJ1_numberOfTrailingZeros_30 (by decide +kernel) ?_
        refine lv_iushr (v := ((zI 4194303).toUInt32 >>> ((zI 16).toUInt32 &&& Int32.toUInt32 31)).toInt32) hx hb dJ1_numberOfTrailingZeros_32 rfl ?_
        refine lv_topx (zI 63) (by decide +kernel) ?_
        refine lv_istore_n (lv' := [(0, .int (zI 63)), (1, .int (zI 17))]) hx hb dJ1_numberOfTrailingZeros_33 rfl hl (by decide) rfl (fun ls hl => ?_)
        refine lv_iload_n hx hb dJ1_numberOfTrailingZeros_34 rfl (lv_at hl 0 rfl) ?_
        refine lv_sipush (v := zI 256) hx hb dJ1_numberOfTrailingZeros_35 (by decide +kernel) ?_
        refine g_cle (tgt := 49) hx hb dJ1_numberOfTrailingZeros_38 (by decide) (by omega) (fun hq => ?_) (fun hq => ?_)
        · refine lv_iload_n hx hb dJ1_numberOfTrailingZeros_49 rfl (lv_at hl 0 rfl) ?_
          refine lv_bipush (v := zI 16) hx hb dJ1_numberOfTrailingZeros_50 (by decide +kernel) ?_
          refine g_cle (tgt := 62) hx hb dJ1_numberOfTrailingZeros_52 (by decide) (by omega) (fun hq => ?_) (fun hq => ?_)
          · exfalso; omega
          · refine lv_iinc (v := zI 21) (lv' := [(1, .int (zI 21)), (0, .int (zI 63))]) hx hb dJ1_numberOfTrailingZeros_55 hl (k := 1) rfl ((zI_add _ _).trans (congrArg zI (by omega))) (by decide) rfl (fun ls hl => ?_)
            refine lv_iload_n hx hb dJ1_numberOfTrailingZeros_58 rfl (lv_at hl 1 rfl) ?_
            refine lv_iconst (v := zI 4) hx hb dJ1_numberOfTrailingZeros_59 (by decide +kernel) ?_
            refine lv_iushr (v := ((zI 63).toUInt32 >>> ((zI 4).toUInt32 &&& Int32.toUInt32 31)).toInt32) hx hb dJ1_numberOfTrailingZeros_60 rfl ?_
            refine lv_topx (zI 3) (by decide +kernel) ?_
            refine lv_istore_n (lv' := [(0, .int (zI 3)), (1, .int (zI 21))]) hx hb dJ1_numberOfTrailingZeros_61 rfl hl (by decide) rfl (fun ls hl => ?_)
            refine lv_iload_n hx hb dJ1_numberOfTrailingZeros_62 rfl (lv_at hl 0 rfl) ?_
            refine lv_iconst (v := zI 4) hx hb dJ1_numberOfTrailingZeros_63 (by decide +kernel) ?_
            refine g_cle (tgt := 74) hx hb dJ1_numberOfTrailingZeros_64 (by decide) (by omega) (fun hq => ?_) (fun hq => ?_)
            · refine lv_iload_n hx hb dJ1_numberOfTrailingZeros_74 rfl (lv_at hl 1 rfl) ?_
              refine lv_iload_n hx hb dJ1_numberOfTrailingZeros_75 rfl (lv_at hl 0 rfl) ?_
              refine lv_iconst (v := zI 1) hx hb dJ1_numberOfTrailingZeros_76 (by decide +kernel) ?_
              refine lv_iushr (v := ((zI 3).toUInt32 >>> ((zI 1).toUInt32 &&& Int32.toUInt32 31)).toInt32) hx hb dJ1_numberOfTrailingZeros_77 rfl ?_
              refine lv_topx (zI 1) (by decide +kernel) ?_
              refine g_iadd hx hb dJ1_numberOfTrailingZeros_78 ?_
              refine g_topz (y := 22) (by omega) ?_
              exact g_iret hx hb hr hlocks hG (⟨rfl, rfl, rfl, rfl⟩) ⟨Nat.le_of_ble_eq_true rfl, Nat.le_of_ble_eq_true rfl⟩ dJ1_numberOfTrailingZeros_79
            · exfalso; omega
        · exfalso; omega
    · exfalso; omega
  · subst hk9
    refine g_topz (y := 8388607) (by decide) ?_
    refine lv_istore_n (lv' := [(0, .int (zI 8388607))]) hx hb dJ1_numberOfTrailingZeros_7 rfl hl (by decide) rfl (fun ls hl => ?_)
    refine lv_iload_n hx hb dJ1_numberOfTrailingZeros_8 rfl (lv_at hl 0 rfl) ?_
    refine g_gt (tgt := 17) hx hb dJ1_numberOfTrailingZeros_9 (by decide) (by decide) (fun hq => ?_) (fun hq => ?_)
    · refine lv_iconst (v := zI 1) hx hb dJ1_numberOfTrailingZeros_17 (by decide +kernel) ?_
      refine lv_istore_n (lv' := [(1, .int (zI 1)), (0, .int (zI 8388607))]) hx hb dJ1_numberOfTrailingZeros_18 rfl hl (by decide) rfl (fun ls hl => ?_)
      refine lv_iload_n hx hb dJ1_numberOfTrailingZeros_19 rfl (lv_at hl 1 rfl) ?_
      refine lv_ldcw (v := 65536) hx hb hown (hts _ q1896) dJ1_numberOfTrailingZeros_20 ?_
      refine lv_topx (zI 65536) (by decide +kernel) ?_
      refine g_cle (tgt := 34) hx hb dJ1_numberOfTrailingZeros_23 (by decide) (by omega) (fun hq => ?_) (fun hq => ?_)
      · exfalso; omega
      · refine lv_iinc (v := zI 17) (lv' := [(1, .int (zI 17)), (0, .int (zI 8388607))]) hx hb dJ1_numberOfTrailingZeros_26 hl (k := 0) rfl ((zI_add _ _).trans (congrArg zI (by omega))) (by decide) rfl (fun ls hl => ?_)
        refine lv_iload_n hx hb dJ1_numberOfTrailingZeros_29 rfl (lv_at hl 1 rfl) ?_
        refine lv_bipush (v := zI 16) hx hb dJ1_numberOfTrailingZeros_30 (by decide +kernel) ?_
        refine lv_iushr (v := ((zI 8388607).toUInt32 >>> ((zI 16).toUInt32 &&& Int32.toUInt32 31)).toInt32) hx hb dJ1_numberOfTrailingZeros_32 rfl ?_
        refine lv_topx (zI 127) (by decide +kernel) ?_
        refine lv_istore_n (lv' := [(0, .int (zI 127)), (1, .int (zI 17))]) hx hb dJ1_numberOfTrailingZeros_33 rfl hl (by decide) rfl (fun ls hl => ?_)
        refine lv_iload_n hx hb dJ1_numberOfTrailingZeros_34 rfl (lv_at hl 0 rfl) ?_
        refine lv_sipush (v := zI 256) hx hb dJ1_numberOfTrailingZeros_35 (by decide +kernel) ?_
        refine g_cle (tgt := 49) hx hb dJ1_numberOfTrailingZeros_38 (by decide) (by omega) (fun hq => ?_) (fun hq => ?_)
        · refine lv_iload_n hx hb dJ1_numberOfTrailingZeros_49 rfl (lv_at hl 0 rfl) ?_
          refine lv_bipush (v := zI 16) hx hb dJ1_numberOfTrailingZeros_50 (by decide +kernel) ?_
          refine g_cle (tgt := 62) hx hb dJ1_numberOfTrailingZeros_52 (by decide) (by omega) (fun hq => ?_) (fun hq => ?_)
          · exfalso; omega
          · refine lv_iinc (v := zI 21) (lv' := [(1, .int (zI 21)), (0, .int (zI 127))]) hx hb dJ1_numberOfTrailingZeros_55 hl (k := 1) rfl ((zI_add _ _).trans (congrArg zI (by omega))) (by decide) rfl (fun ls hl => ?_)
            refine lv_iload_n hx hb dJ1_numberOfTrailingZeros_58 rfl (lv_at hl 1 rfl) ?_
            refine lv_iconst (v := zI 4) hx hb dJ1_numberOfTrailingZeros_59 (by decide +kernel) ?_
            refine lv_iushr (v := ((zI 127).toUInt32 >>> ((zI 4).toUInt32 &&& Int32.toUInt32 31)).toInt32) hx hb dJ1_numberOfTrailingZeros_60 rfl ?_
            refine lv_topx (zI 7) (by decide +kernel) ?_
            refine lv_istore_n (lv' := [(0, .int (zI 7)), (1, .int (zI 21))]) hx hb dJ1_numberOfTrailingZeros_61 rfl hl (by decide) rfl (fun ls hl => ?_)
            refine lv_iload_n hx hb dJ1_numberOfTrailingZeros_62 rfl (lv_at hl 0 rfl) ?_
            refine lv_iconst (v := zI 4) hx hb dJ1_numberOfTrailingZeros_63 (by decide +kernel) ?_
            refine g_cle (tgt := 74) hx hb dJ1_numberOfTrailingZeros_64 (by decide) (by omega) (fun hq => ?_) (fun hq => ?_)
            · exfalso; omega
            · refine lv_iinc (v := zI 23) (lv' := [(1, .int (zI 23)), (0, .int (zI 7))]) hx hb dJ1_numberOfTrailingZeros_67 hl (k := 1) rfl ((zI_add _ _).trans (congrArg zI (by omega))) (by decide) rfl (fun ls hl => ?_)
              refine lv_iload_n hx hb dJ1_numberOfTrailingZeros_70 rfl (lv_at hl 1 rfl) ?_
              refine lv_iconst (v := zI 2) hx hb dJ1_numberOfTrailingZeros_71 (by decide +kernel) ?_
              refine lv_iushr (v := ((zI 7).toUInt32 >>> ((zI 2).toUInt32 &&& Int32.toUInt32 31)).toInt32) hx hb dJ1_numberOfTrailingZeros_72 rfl ?_
              refine lv_topx (zI 1) (by decide +kernel) ?_
              refine lv_istore_n (lv' := [(0, .int (zI 1)), (1, .int (zI 23))]) hx hb dJ1_numberOfTrailingZeros_73 rfl hl (by decide) rfl (fun ls hl => ?_)
              refine lv_iload_n hx hb dJ1_numberOfTrailingZeros_74 rfl (lv_at hl 1 rfl) ?_
              refine lv_iload_n hx hb dJ1_numberOfTrailingZeros_75 rfl (lv_at hl 0 rfl) ?_
              refine lv_iconst (v := zI 1) hx hb dJ1_numberOfTrailingZeros_76 (by decide +kernel) ?_
              refine lv_iushr (v := ((zI 1).toUInt32 >>> ((zI 1).toUInt32 &&& Int32.toUInt32 31)).toInt32) hx hb dJ1_numberOfTrailingZeros_77 rfl ?_
              refine lv_topx (zI 0) (by decide +kernel) ?_
              refine g_iadd hx hb dJ1_numberOfTrailingZeros_78 ?_
              refine g_topz (y := 23) (by omega) ?_
              exact g_iret hx hb hr hlocks hG (⟨rfl, rfl, rfl, rfl⟩) ⟨Nat.le_of_ble_eq_true rfl, Nat.le_of_ble_eq_true rfl⟩ dJ1_numberOfTrailingZeros_79
        · exfalso; omega
    · exfalso; omega
  · subst hk9
    refine g_topz (y := 16777215) (by decide) ?_
    refine lv_istore_n (lv' := [(0, .int (zI 16777215))]) hx hb dJ1_numberOfTrailingZeros_7 rfl hl (by decide) rfl (fun ls hl => ?_)
    refine lv_iload_n hx hb dJ1_numberOfTrailingZeros_8 rfl (lv_at hl 0 rfl) ?_
    refine g_gt (tgt := 17) hx hb dJ1_numberOfTrailingZeros_9 (by decide) (by decide) (fun hq => ?_) (fun hq => ?_)
    · refine lv_iconst (v := zI 1) hx hb dJ1_numberOfTrailingZeros_17 (by decide +kernel) ?_
      refine lv_istore_n (lv' := [(1, .int (zI 1)), (0, .int (zI 16777215))]) hx hb dJ1_numberOfTrailingZeros_18 rfl hl (by decide) rfl (fun ls hl => ?_)
      refine lv_iload_n hx hb dJ1_numberOfTrailingZeros_19 rfl (lv_at hl 1 rfl) ?_
      refine lv_ldcw (v := 65536) hx hb hown (hts _ q1896) dJ1_numberOfTrailingZeros_20 ?_
      refine lv_topx (zI 65536) (by decide +kernel) ?_
      refine g_cle (tgt := 34) hx hb dJ1_numberOfTrailingZeros_23 (by decide) (by omega) (fun hq => ?_) (fun hq => ?_)
      · exfalso; omega
      · refine lv_iinc (v := zI 17) (lv' := [(1, .int (zI 17)), (0, .int (zI 16777215))]) hx hb dJ1_numberOfTrailingZeros_26 hl (k := 0) rfl ((zI_add _ _).trans (congrArg zI (by omega))) (by decide) rfl (fun ls hl => ?_)
        refine lv_iload_n hx hb dJ1_numberOfTrailingZeros_29 rfl (lv_at hl 1 rfl) ?_
        refine lv_bipush (v := zI 16) hx hb dJ1_numberOfTrailingZeros_30 (by decide +kernel) ?_
        refine lv_iushr (v := ((zI 16777215).toUInt32 >>> ((zI 16).toUInt32 &&& Int32.toUInt32 31)).toInt32) hx hb dJ1_numberOfTrailingZeros_32 rfl ?_
        refine lv_topx (zI 255) (by decide +kernel) ?_
        refine lv_istore_n (lv' := [(0, .int (zI 255)), (1, .int (zI 17))]) hx hb dJ1_numberOfTrailingZeros_33 rfl hl (by decide) rfl (fun ls hl => ?_)
        refine lv_iload_n hx hb dJ1_numberOfTrailingZeros_34 rfl (lv_at hl 0 rfl) ?_
        refine lv_sipush (v := zI 256) hx hb dJ1_numberOfTrailingZeros_35 (by decide +kernel) ?_
        refine g_cle (tgt := 49) hx hb dJ1_numberOfTrailingZeros_38 (by decide) (by omega) (fun hq => ?_) (fun hq => ?_)
        · refine lv_iload_n hx hb dJ1_numberOfTrailingZeros_49 rfl (lv_at hl 0 rfl) ?_
          refine lv_bipush (v := zI 16) hx hb dJ1_numberOfTrailingZeros_50 (by decide +kernel) ?_
          refine g_cle (tgt := 62) hx hb dJ1_numberOfTrailingZeros_52 (by decide) (by omega) (fun hq => ?_) (fun hq => ?_)
          · exfalso; omega
          · refine lv_iinc (v := zI 21) (lv' := [(1, .int (zI 21)), (0, .int (zI 255))]) hx hb dJ1_numberOfTrailingZeros_55 hl (k := 1) rfl ((zI_add _ _).trans (congrArg zI (by omega))) (by decide) rfl (fun ls hl => ?_)
            refine lv_iload_n hx hb dJ1_numberOfTrailingZeros_58 rfl (lv_at hl 1 rfl) ?_
            refine lv_iconst (v := zI 4) hx hb dJ1_numberOfTrailingZeros_59 (by decide +kernel) ?_
            refine lv_iushr (v := ((zI 255).toUInt32 >>> ((zI 4).toUInt32 &&& Int32.toUInt32 31)).toInt32) hx hb dJ1_numberOfTrailingZeros_60 rfl ?_
            refine lv_topx (zI 15) (by decide +kernel) ?_
            refine lv_istore_n (lv' := [(0, .int (zI 15)), (1, .int (zI 21))]) hx hb dJ1_numberOfTrailingZeros_61 rfl hl (by decide) rfl (fun ls hl => ?_)
            refine lv_iload_n hx hb dJ1_numberOfTrailingZeros_62 rfl (lv_at hl 0 rfl) ?_
            refine lv_iconst (v := zI 4) hx hb dJ1_numberOfTrailingZeros_63 (by decide +kernel) ?_
            refine g_cle (tgt := 74) hx hb dJ1_numberOfTrailingZeros_64 (by decide) (by omega) (fun hq => ?_) (fun hq => ?_)
            · exfalso; omega
            · refine lv_iinc (v := zI 23) (lv' := [(1, .int (zI 23)), (0, .int (zI 15))]) hx hb dJ1_numberOfTrailingZeros_67 hl (k := 1) rfl ((zI_add _ _).trans (congrArg zI (by omega))) (by decide) rfl (fun ls hl => ?_)
              refine lv_iload_n hx hb dJ1_numberOfTrailingZeros_70 rfl (lv_at hl 1 rfl) ?_
              refine lv_iconst (v := zI 2) hx hb dJ1_numberOfTrailingZeros_71 (by decide +kernel) ?_
              refine lv_iushr (v := ((zI 15).toUInt32 >>> ((zI 2).toUInt32 &&& Int32.toUInt32 31)).toInt32) hx hb dJ1_numberOfTrailingZeros_72 rfl ?_
              refine lv_topx (zI 3) (by decide +kernel) ?_
              refine lv_istore_n (lv' := [(0, .int (zI 3)), (1, .int (zI 23))]) hx hb dJ1_numberOfTrailingZeros_73 rfl hl (by decide) rfl (fun ls hl => ?_)
              refine lv_iload_n hx hb dJ1_numberOfTrailingZeros_74 rfl (lv_at hl 1 rfl) ?_
              refine lv_iload_n hx hb dJ1_numberOfTrailingZeros_75 rfl (lv_at hl 0 rfl) ?_
              refine lv_iconst (v := zI 1) hx hb dJ1_numberOfTrailingZeros_76 (by decide +kernel) ?_
              refine lv_iushr (v := ((zI 3).toUInt32 >>> ((zI 1).toUInt32 &&& Int32.toUInt32 31)).toInt32) hx hb dJ1_numberOfTrailingZeros_77 rfl ?_
              refine lv_topx (zI 1) (by decide +kernel) ?_
              refine g_iadd hx hb dJ1_numberOfTrailingZeros_78 ?_
              refine g_topz (y := 24) (by omega) ?_
              exact g_iret hx hb hr hlocks hG (⟨rfl, rfl, rfl, rfl⟩) ⟨Nat.le_of_ble_eq_true rfl, Nat.le_of_ble_eq_true rfl⟩ dJ1_numberOfTrailingZeros_79
        · exfalso; omega
    · exfalso; omega
  · subst hk9
    refine g_topz (y := 33554431) (by decide) ?_
    refine lv_istore_n (lv' := [(0, .int (zI 33554431))]) hx hb dJ1_numberOfTrailingZeros_7 rfl hl (by decide) rfl (fun ls hl => ?_)
    refine lv_iload_n hx hb dJ1_numberOfTrailingZeros_8 rfl (lv_at hl 0 rfl) ?_
    refine g_gt (tgt := 17) hx hb dJ1_numberOfTrailingZeros_9 (by decide) (by decide) (fun hq => ?_) (fun hq => ?_)
    · refine lv_iconst (v := zI 1) hx hb dJ1_numberOfTrailingZeros_17 (by decide +kernel) ?_
      refine lv_istore_n (lv' := [(1, .int (zI 1)), (0, .int (zI 33554431))]) hx hb dJ1_numberOfTrailingZeros_18 rfl hl (by decide) rfl (fun ls hl => ?_)
      refine lv_iload_n hx hb dJ1_numberOfTrailingZeros_19 rfl (lv_at hl 1 rfl) ?_
      refine lv_ldcw (v := 65536) hx hb hown (hts _ q1896) dJ1_numberOfTrailingZeros_20 ?_
      refine lv_topx (zI 65536) (by decide +kernel) ?_
      refine g_cle (tgt := 34) hx hb dJ1_numberOfTrailingZeros_23 (by decide) (by omega) (fun hq => ?_) (fun hq => ?_)
      · exfalso; omega
      · refine lv_iinc (v := zI 17) (lv' := [(1, .int (zI 17)), (0, .int (zI 33554431))]) hx hb dJ1_numberOfTrailingZeros_26 hl (k := 0) rfl ((zI_add _ _).trans (congrArg zI (by omega))) (by decide) rfl (fun ls hl => ?_)
        refine lv_iload_n hx hb dJ1_numberOfTrailingZeros_29 rfl (lv_at hl 1 rfl) ?_
        refine lv_bipush (v := zI 16) hx hb dJ1_numberOfTrailingZeros_30 (by decide +kernel) ?_
        refine lv_iushr (v := ((zI 33554431).toUInt32 >>> ((zI 16).toUInt32 &&& Int32.toUInt32 31)).toInt32) hx hb dJ1_numberOfTrailingZeros_32 rfl ?_
        refine lv_topx (zI 511) (by decide +kernel) ?_
        refine lv_istore_n (lv' := [(0, .int (zI 511)), (1, .int (zI 17))]) hx hb dJ1_numberOfTrailingZeros_33 rfl hl (by decide) rfl (fun ls hl => ?_)
        refine lv_iload_n hx hb dJ1_numberOfTrailingZeros_34 rfl (lv_at hl 0 rfl) ?_
        refine lv_sipush (v := zI 256) hx hb dJ1_numberOfTrailingZeros_35 (by decide +kernel) ?_
        refine g_cle (tgt := 49) hx hb dJ1_numberOfTrailingZeros_38 (by decide) (by omega) (fun hq => ?_) (fun hq => ?_)
        · exfalso; omega
        · refine lv_iinc (v := zI 25) (lv' := [(1, .int (zI 25)), (0, .int (zI 511))]) hx hb dJ1_numberOfTrailingZeros_41 hl (k := 1) rfl ((zI_add _ _).trans (congrArg zI (by omega))) (by decide) rfl (fun ls hl => ?_)
          refine lv_iload_n hx hb dJ1_numberOfTrailingZeros_44 rfl (lv_at hl 1 rfl) ?_
          refine lv_bipush (v := zI 8) hx hb dJ1_numberOfTrailingZeros_45 (by decide +kernel) ?_
          refine lv_iushr (v := ((zI 511).toUInt32 >>> ((zI 8).toUInt32 &&& Int32.toUInt32 31)).toInt32) hx hb dJ1_numberOfTrailingZeros_47 rfl ?_
          refine lv_topx (zI 1) (by decide +kernel) ?_
          refine lv_istore_n (lv' := [(0, .int (zI 1)), (1, .int (zI 25))]) hx hb dJ1_numberOfTrailingZeros_48 rfl hl (by decide) rfl (fun ls hl => ?_)
          refine lv_iload_n hx hb dJ1_numberOfTrailingZeros_49 rfl (lv_at hl 0 rfl) ?_
          refine lv_bipush (v := zI 16) hx hb dJ1_numberOfTrailingZeros_50 (by decide +kernel) ?_
          refine g_cle (tgt := 62) hx hb dJ1_numberOfTrailingZeros_52 (by decide) (by omega) (fun hq => ?_) (fun hq => ?_)
          · refine lv_iload_n hx hb dJ1_numberOfTrailingZeros_62 rfl (lv_at hl 0 rfl) ?_
            refine lv_iconst (v := zI 4) hx hb dJ1_numberOfTrailingZeros_63 (by decide +kernel) ?_
            refine g_cle (tgt := 74) hx hb dJ1_numberOfTrailingZeros_64 (by decide) (by omega) (fun hq => ?_) (fun hq => ?_)
            · refine lv_iload_n hx hb dJ1_numberOfTrailingZeros_74 rfl (lv_at hl 1 rfl) ?_
              refine lv_iload_n hx hb dJ1_numberOfTrailingZeros_75 rfl (lv_at hl 0 rfl) ?_
              refine lv_iconst (v := zI 1) hx hb dJ1_numberOfTrailingZeros_76 (by decide +kernel) ?_
              refine lv_iushr (v := ((zI 1).toUInt32 >>> ((zI 1).toUInt32 &&& Int32.toUInt32 31)).toInt32) hx hb dJ1_numberOfTrailingZeros_77 rfl ?_
              refine lv_topx (zI 0) (by decide +kernel) ?_
              refine g_iadd hx hb dJ1_numberOfTrailingZeros_78 ?_
              refine g_topz (y := 25) (by omega) ?_
              exact g_iret hx hb hr hlocks hG (⟨rfl, rfl, rfl, rfl⟩) ⟨Nat.le_of_ble_eq_true rfl, Nat.le_of_ble_eq_true rfl⟩ dJ1_numberOfTrailingZeros_79
            · exfalso; omega
          · exfalso; omega
    · exfalso; omega
  · subst hk9
    refine g_topz (y := 67108863) (by decide) ?_
    refine lv_istore_n (lv' := [(0, .int (zI 67108863))]) hx hb dJ1_numberOfTrailingZeros_7 rfl hl (by decide) rfl (fun ls hl => ?_)
    refine lv_iload_n hx hb dJ1_numberOfTrailingZeros_8 rfl (lv_at hl 0 rfl) ?_
    refine g_gt (tgt := 17) hx hb dJ1_numberOfTrailingZeros_9 (by decide) (by decide) (fun hq => ?_) (fun hq => ?_)
    · refine lv_iconst (v := zI 1) hx hb dJ1_numberOfTrailingZeros_17 (by decide +kernel) ?_
      refine lv_istore_n (lv' := [(1, .int (zI 1)), (0, .int (zI 67108863))]) hx hb dJ1_numberOfTrailingZeros_18 rfl hl (by decide) rfl (fun ls hl => ?_)
      refine lv_iload_n hx hb dJ1_numberOfTrailingZeros_19 rfl (lv_at hl 1 rfl) ?_
      refine lv_ldcw (v := 65536) hx hb hown (hts _ q1896) dJ1_numberOfTrailingZeros_20 ?_
      refine lv_topx (zI 65536) (by decide +kernel) ?_
      refine g_cle (tgt := 34) hx hb dJ1_numberOfTrailingZeros_23 (by decide) (by omega) (fun hq => ?_) (fun hq => ?_)
      · exfalso; omega
      · refine lv_iinc (v := zI 17) (lv' := [(1, .int (zI 17)), (0, .int (zI 67108863))]) hx hb dJ1_numberOfTrailingZeros_26 hl (k := 0) rfl ((zI_add _ _).trans (congrArg zI (by omega))) (by decide) rfl (fun ls hl => ?_)
        refine lv_iload_n hx hb dJ1_numberOfTrailingZeros_29 rfl (lv_at hl 1 rfl) ?_
        refine lv_bipush (v := zI 16) hx hb dJ1_numberOfTrailingZeros_30 (by decide +kernel) ?_
        refine lv_iushr (v := ((zI 67108863).toUInt32 >>> ((zI 16).toUInt32 &&& Int32.toUInt32 31)).toInt32) hx hb dJ1_numberOfTrailingZeros_32 rfl ?_
        refine lv_topx (zI 1023) (by decide +kernel) ?_
        refine lv_istore_n (lv' := [(0, .int (zI 1023)), (1, .int (zI 17))]) hx hb dJ1_numberOfTrailingZeros_33 rfl hl (by decide) rfl (fun ls hl => ?_)
        refine lv_iload_n hx hb dJ1_numberOfTrailingZeros_34 rfl (lv_at hl 0 rfl) ?_
        refine lv_sipush (v := zI 256) hx hb dJ1_numberOfTrailingZeros_35 (by decide +kernel) ?_
        refine g_cle (tgt := 49) hx hb dJ1_numberOfTrailingZeros_38 (by decide) (by omega) (fun hq => ?_) (fun hq => ?_)
        · exfalso; omega
        · refine lv_iinc (v := zI 25) (lv' := [(1, .int (zI 25)), (0, .int (zI 1023))]) hx hb dJ1_numberOfTrailingZeros_41 hl (k := 1) rfl ((zI_add _ _).trans (congrArg zI (by omega))) (by decide) rfl (fun ls hl => ?_)
          refine lv_iload_n hx hb dJ1_numberOfTrailingZeros_44 rfl (lv_at hl 1 rfl) ?_
          refine lv_bipush (v := zI 8) hx hb dJ1_numberOfTrailingZeros_45 (by decide +kernel) ?_
          refine lv_iushr (v := ((zI 1023).toUInt32 >>> ((zI 8).toUInt32 &&& Int32.toUInt32 31)).toInt32) hx hb dJ1_numberOfTrailingZeros_47 rfl ?_
          refine lv_topx (zI 3) (by decide +kernel) ?_
          refine lv_istore_n (lv' := [(0, .int (zI 3)), (1, .int (zI 25))]) hx hb dJ1_numberOfTrailingZeros_48 rfl hl (by decide) rfl (fun ls hl => ?_)
          refine lv_iload_n hx hb dJ1_numberOfTrailingZeros_49 rfl (lv_at hl 0 rfl) ?_
          refine lv_bipush (v := zI 16) hx hb dJ1_numberOfTrailingZeros_50 (by decide +kernel) ?_
          refine g_cle (tgt := 62) hx hb dJ1_numberOfTrailingZeros_52 (by decide) (by omega) (fun hq => ?_) (fun hq => ?_)
          · refine lv_iload_n hx hb dJ1_numberOfTrailingZeros_62 rfl (lv_at hl 0 rfl) ?_
            refine lv_iconst (v := zI 4) hx hb dJ1_numberOfTrailingZeros_63 (by decide +kernel) ?_
            refine g_cle (tgt := 74) hx hb dJ1_numberOfTrailingZeros_64 (by decide) (by omega) (fun hq => ?_) (fun hq => ?_)
            · refine lv_iload_n hx hb dJ1_numberOfTrailingZeros_74 rfl (lv_at hl 1 rfl) ?_
              refine lv_iload_n hx hb dJ1_numberOfTrailingZeros_75 rfl (lv_at hl 0 rfl) ?_
              refine lv_iconst (v := zI 1) hx hb dJ1_numberOfTrailingZeros_76 (by decide +kernel) ?_
              refine lv_iushr (v := ((zI 3).toUInt32 >>> ((zI 1).toUInt32 &&& Int32.toUInt32 31)).toInt32) hx hb dJ1_numberOfTrailingZeros_77 rfl ?_
              refine lv_topx (zI 1) (by decide +kernel) ?_
              refine g_iadd hx hb dJ1_numberOfTrailingZeros_78 ?_
              refine g_topz (y := 26) (by omega) ?_
              exact g_iret hx hb hr hlocks hG (⟨rfl, rfl, rfl, rfl⟩) ⟨Nat.le_of_ble_eq_true rfl, Nat.le_of_ble_eq_true rfl⟩ dJ1_numberOfTrailingZeros_79
            · exfalso; omega
          · exfalso; omega
    · exfalso; omega
  · subst hk9
    refine g_topz (y := 134217727) (by decide) ?_
    refine lv_istore_n (lv' := [(0, .int (zI 134217727))]) hx hb dJ1_numberOfTrailingZeros_7 rfl hl (by decide) rfl (fun ls hl => ?_)
    refine lv_iload_n hx hb dJ1_numberOfTrailingZeros_8 rfl (lv_at hl 0 rfl) ?_
    refine g_gt (tgt := 17) hx hb dJ1_numberOfTrailingZeros_9 (by decide) (by decide) (fun hq => ?_) (fun hq => ?_)
    · refine lv_iconst (v := zI 1) hx hb dJ1_numberOfTrailingZeros_17 (by decide +kernel) ?_
      refine lv_istore_n (lv' := [(1, .int (zI 1)), (0, .int (zI 134217727))]) hx hb dJ1_numberOfTrailingZeros_18 rfl hl (by decide) rfl (fun ls hl => ?_)
      refine lv_iload_n hx hb dJ1_numberOfTrailingZeros_19 rfl (lv_at hl 1 rfl) ?_
      refine lv_ldcw (v := 65536) hx hb hown (hts _ q1896) dJ1_numberOfTrailingZeros_20 ?_
      refine lv_topx (zI 65536) (by decide +kernel) ?_
      refine g_cle (tgt := 34) hx hb dJ1_numberOfTrailingZeros_23 (by decide) (by omega) (fun hq => ?_) (fun hq => ?_)
      · exfalso; omega
      · refine lv_iinc (v := zI 17) (lv' := [(1, .int (zI 17)), (0, .int (zI 134217727))]) hx hb dJ1_numberOfTrailingZeros_26 hl (k := 0) rfl ((zI_add _ _).trans (congrArg zI (by omega))) (by decide) rfl (fun ls hl => ?_)
        refine lv_iload_n hx hb dJ1_numberOfTrailingZeros_29 rfl (lv_at hl 1 rfl) ?_
        refine lv_bipush (v := zI 16) hx hb dJ1_numberOfTrailingZeros_30 (by decide +kernel) ?_
        refine lv_iushr (v := ((zI 134217727).toUInt32 >>> ((zI 16).toUInt32 &&& Int32.toUInt32 31)).toInt32) hx hb dJ1_numberOfTrailingZeros_32 rfl ?_
        refine lv_topx (zI 2047) (by decide +kernel) ?_
        refine lv_istore_n (lv' := [(0, .int (zI 2047)), (1, .int (zI 17))]) hx hb dJ1_numberOfTrailingZeros_33 rfl hl (by decide) rfl (fun ls hl => ?_)
        refine lv_iload_n hx hb dJ1_numberOfTrailingZeros_34 rfl (lv_at hl 0 rfl) ?_
        refine lv_sipush (v := zI 256) hx hb dJ1_numberOfTrailingZeros_35 (by decide +kernel) ?_
        refine g_cle (tgt := 49) hx hb dJ1_numberOfTrailingZeros_38 (by decide) (by omega) (fun hq => ?_) (fun hq => ?_)
        · exfalso; omega
        · refine lv_iinc (v := zI 25) (lv' := [(1, .int (zI 25)), (0, .int (zI 2047))]) hx hb dJ1_numberOfTrailingZeros_41 hl (k := 1) rfl ((zI_add _ _).trans (congrArg zI (by omega))) (by decide) rfl (fun ls hl => ?_)
          refine lv_iload_n hx hb dJ1_numberOfTrailingZeros_44 rfl (lv_at hl 1 rfl) ?_
          refine lv_bipush (v := zI 8) hx hb dJ1_numberOfTrailingZeros_45 (by decide +kernel) ?_
          refine lv_iushr (v := ((zI 2047).toUInt32 >>> ((zI 8).toUInt32 &&& Int32.toUInt32 31)).toInt32) hx hb dJ1_numberOfTrailingZeros_47 rfl ?_
          refine lv_topx (zI 7) (by decide +kernel) ?_
          refine lv_istore_n (lv' := [(0, .int (zI 7)), (1, .int (zI 25))]) hx hb dJ1_numberOfTrailingZeros_48 rfl hl (by decide) rfl (fun ls hl => ?_)
          refine lv_iload_n hx hb dJ1_numberOfTrailingZeros_49 rfl (lv_at hl 0 rfl) ?_
          refine lv_bipush (v := zI 16) hx hb dJ1_numberOfTrailingZeros_50 (by decide +kernel) ?_
          refine g_cle (tgt := 62) hx hb dJ1_numberOfTrailingZeros_52 (by decide) (by omega) (fun hq => ?_) (fun hq => ?_)
          · refine lv_iload_n hx hb dJ1_numberOfTrailingZeros_62 rfl (lv_at hl 0 rfl) ?_
            refine lv_iconst (v := zI 4) hx hb dJ1_numberOfTrailingZeros_63 (by decide +kernel) ?_
            refine g_cle (tgt := 74) hx hb dJ1_numberOfTrailingZeros_64 (by decide) (by omega) (fun hq => ?_) (fun hq => ?_)
            · exfalso; omega
            · refine lv_iinc (v := zI 27) (lv' := [(1, .int (zI 27)), (0, .int (zI 7))]) hx hb dJ1_numberOfTrailingZeros_67 hl (k := 1) rfl ((zI_add _ _).trans (congrArg zI (by omega))) (by decide) rfl (fun ls hl => ?_)
              refine lv_iload_n hx hb dJ1_numberOfTrailingZeros_70 rfl (lv_at hl 1 rfl) ?_
              refine lv_iconst (v := zI 2) hx hb dJ1_numberOfTrailingZeros_71 (by decide +kernel) ?_
              refine lv_iushr (v := ((zI 7).toUInt32 >>> ((zI 2).toUInt32 &&& Int32.toUInt32 31)).toInt32) hx hb dJ1_numberOfTrailingZeros_72 rfl ?_
              refine lv_topx (zI 1) (by decide +kernel) ?_
              refine lv_istore_n (lv' := [(0, .int (zI 1)), (1, .int (zI 27))]) hx hb dJ1_numberOfTrailingZeros_73 rfl hl (by decide) rfl (fun ls hl => ?_)
              refine lv_iload_n hx hb dJ1_numberOfTrailingZeros_74 rfl (lv_at hl 1 rfl) ?_
              refine lv_iload_n hx hb dJ1_numberOfTrailingZeros_75 rfl (lv_at hl 0 rfl) ?_
              refine lv_iconst (v := zI 1) hx hb dJ1_numberOfTrailingZeros_76 (by decide +kernel) ?_
              refine lv_iushr (v := ((zI 1).toUInt32 >>> ((zI 1).toUInt32 &&& Int32.toUInt32 31)).toInt32) hx hb dJ1_numberOfTrailingZeros_77 rfl ?_
              refine lv_topx (zI 0) (by decide +kernel) ?_
              refine g_iadd hx hb dJ1_numberOfTrailingZeros_78 ?_
              refine g_topz (y := 27) (by omega) ?_
              exact g_iret hx hb hr hlocks hG (⟨rfl, rfl, rfl, rfl⟩) ⟨Nat.le_of_ble_eq_true rfl, Nat.le_of_ble_eq_true rfl⟩ dJ1_numberOfTrailingZeros_79
          · exfalso; omega
    · exfalso; omega
  · subst hk9
    refine g_topz (y := 268435455) (by decide) ?_
    refine lv_istore_n (lv' := [(0, .int (zI 268435455))]) hx hb dJ1_numberOfTrailingZeros_7 rfl hl (by decide) rfl (fun ls hl => ?_)
    refine lv_iload_n hx hb dJ1_numberOfTrailingZeros_8 rfl (lv_at hl 0 rfl) ?_
    refine g_gt (tgt := 17) hx hb dJ1_numberOfTrailingZeros_9 (by decide) (by decide) (fun hq => ?_) (fun hq => ?_)
    · refine lv_iconst (v := zI 1) hx hb dJ1_numberOfTrailingZeros_17 (by decide +kernel) ?_
      refine lv_istore_n (lv' := [(1, .int (zI 1)), (0, .int (zI 268435455))]) hx hb dJ1_numberOfTrailingZeros_18 rfl hl (by decide) rfl (fun ls hl => ?_)
      refine lv_iload_n hx hb dJ1_numberOfTrailingZeros_19 rfl (lv_at hl 1 rfl) ?_
      refine lv_ldcw (v := 65536) hx hb hown (hts _ q1896) dJ1_numberOfTrailingZeros_20 ?_
      refine lv_topx (zI 65536) (by decide +kernel) ?_
      refine g_cle (tgt := 34) hx hb dJ1_numberOfTrailingZeros_23 (by decide) (by omega) (fun hq => ?_) (fun hq => ?_)
      · exfalso; omega
      · refine lv_iinc (v := zI 17) (lv' := [(1, .int (zI 17)), (0, .int (zI 268435455))]) hx hb dJ1_numberOfTrailingZeros_26 hl (k := 0) rfl ((zI_add _ _).trans (congrArg zI (by omega))) (by decide) rfl (fun ls hl => ?_)
        refine lv_iload_n hx hb dJ1_numberOfTrailingZeros_29 rfl (lv_at hl 1 rfl) ?_
        refine lv_bipush (v := zI 16) hx hb dJ1_numberOfTrailingZeros_30 (by decide +kernel) ?_
        refine lv_iushr (v := ((zI 268435455).toUInt32 >>> ((zI 16).toUInt32 &&& Int32.toUInt32 31)).toInt32) hx hb dJ1_numberOfTrailingZeros_32 rfl ?_
        refine lv_topx (zI 4095) (by decide +kernel) ?_
        refine lv_istore_n (lv' := [(0, .int (zI 4095)), (1, .int (zI 17))]) hx hb dJ1_numberOfTrailingZeros_33 rfl hl (by decide) rfl (fun ls hl => ?_)
        refine lv_iload_n hx hb dJ1_numberOfTrailingZeros_34 rfl (lv_at hl 0 rfl) ?_
        refine lv_sipush (v := zI 256) hx hb dJ1_numberOfTrailingZeros_35 (by decide +kernel) ?_
        refine g_cle (tgt := 49) hx hb dJ1_numberOfTrailingZeros_38 (by decide) (by omega) (fun hq => ?_) (fun hq => ?_)
        · exfalso; omega
        · refine lv_iinc (v := zI 25) (lv' := [(1, .int (zI 25)), (0, .int (zI 4095))]) hx hb dJ1_numberOfTrailingZeros_41 hl (k := 1) rfl ((zI_add _ _).trans (congrArg zI (by omega))) (by decide) rfl (fun ls hl => ?_)
          refine lv_iload_n hx hb dJ1_numberOfTrailingZeros_44 rfl (lv_at hl 1 rfl) ?_
          refine lv_bipush (v := zI 8) hx hb dJ1_numberOfTrailingZeros_45 (by decide +kernel) ?_
          refine lv_iushr (v := ((zI 4095).toUInt32 >>> ((zI 8).toUInt32 &&& Int32.toUInt32 31)).toInt32) hx hb dJ1_numberOfTrailingZeros_47 rfl ?_
          refine lv_topx (zI 15) (by decide +kernel) ?_
          refine lv_istore_n (lv' := [(0, .int (zI 15)), (1, .int (zI 25))]) hx hb dJ1_numberOfTrailingZeros_48 rfl hl (by decide) rfl (fun ls hl => ?_)
          refine lv_iload_n hx hb dJ1_numberOfTrailingZeros_49 rfl (lv_at hl 0 rfl) ?_
          refine lv_bipush (v := zI 16) hx hb dJ1_numberOfTrailingZeros_50 (by decide +kernel) ?_
          refine g_cle (tgt := 62) hx hb dJ1_numberOfTrailingZeros_52 (by decide) (by omega) (fun hq => ?_) (fun hq => ?_)
          · refine lv_iload_n hx hb dJ1_numberOfTrailingZeros_62 rfl (lv_at hl 0 rfl) ?_
            refine lv_iconst (v := zI 4) hx hb dJ1_numberOfTrailingZeros_63 (by decide +kernel) ?_
            refine g_cle (tgt := 74) hx hb dJ1_numberOfTrailingZeros_64 (by decide) (by omega) (fun hq => ?_) (fun hq => ?_)
            · exfalso; omega
            · refine lv_iinc (v := zI 27) (lv' := [(1, .int (zI 27)), (0, .int (zI 15))]) hx hb dJ1_numberOfTrailingZeros_67 hl (k := 1) rfl ((zI_add _ _).trans (congrArg zI (by omega))) (by decide) rfl (fun ls hl => ?_)
              refine lv_iload_n hx hb dJ1_numberOfTrailingZeros_70 rfl (lv_at hl 1 rfl) ?_
              refine lv_iconst (v := zI 2) hx hb dJ1_numberOfTrailingZeros_71 (by decide +kernel) ?_
              refine lv_iushr (v := ((zI 15).toUInt32 >>> ((zI 2).toUInt32 &&& Int32.toUInt32 31)).toInt32) hx hb dJ1_numberOfTrailingZeros_72 rfl ?_
              refine lv_topx (zI 3) (by decide +kernel) ?_
              refine lv_istore_n (lv' := [(0, .int (zI 3)), (1, .int (zI 27))]) hx hb dJ1_numberOfTrailingZeros_73 rfl hl (by decide) rfl (fun ls hl => ?_)
              refine lv_iload_n hx hb dJ1_numberOfTrailingZeros_74 rfl (lv_at hl 1 rfl) ?_
              refine lv_iload_n hx hb dJ1_numberOfTrailingZeros_75 rfl (lv_at hl 0 rfl) ?_
              refine lv_iconst (v := zI 1) hx hb dJ1_numberOfTrailingZeros_76 (by decide +kernel) ?_
              refine lv_iushr (v := ((zI 3).toUInt32 >>> ((zI 1).toUInt32 &&& Int32.toUInt32 31)).toInt32) hx hb dJ1_numberOfTrailingZeros_77 rfl ?_
              refine lv_topx (zI 1) (by decide +kernel) ?_
              refine g_iadd hx hb dJ1_numberOfTrailingZeros_78 ?_
              refine g_topz (y := 28) (by omega) ?_
              exact g_iret hx hb hr hlocks hG (⟨rfl, rfl, rfl, rfl⟩) ⟨Nat.le_of_ble_eq_true rfl, Nat.le_of_ble_eq_true rfl⟩ dJ1_numberOfTrailingZeros_79
          · exfalso; omega
    · exfalso; omega
  · subst hk9
    refine g_topz (y := 536870911) (by decide) ?_
    refine lv_istore_n (lv' := [(0, .int (zI 536870911))]) hx hb dJ1_numberOfTrailingZeros_7 rfl hl (by decide) rfl (fun ls hl => ?_)
    refine lv_iload_n hx hb dJ1_numberOfTrailingZeros_8 rfl (lv_at hl 0 rfl) ?_
    refine g_gt (tgt := 17) hx hb dJ1_numberOfTrailingZeros_9 (by decide) (by decide) (fun hq => ?_) (fun hq => ?_)
    · refine lv_iconst (v := zI 1) hx hb dJ1_numberOfTrailingZeros_17 (by decide +kernel) ?_
      refine lv_istore_n (lv' := [(1, .int (zI 1)), (0, .int (zI 536870911))]) hx hb dJ1_numberOfTrailingZeros_18 rfl hl (by decide) rfl (fun ls hl => ?_)
      refine lv_iload_n hx hb dJ1_numberOfTrailingZeros_19 rfl (lv_at hl 1 rfl) ?_
      refine lv_ldcw (v := 65536) hx hb hown (hts _ q1896) dJ1_numberOfTrailingZeros_20 ?_
      refine lv_topx (zI 65536) (by decide +kernel) ?_
      refine g_cle (tgt := 34) hx hb dJ1_numberOfTrailingZeros_23 (by decide) (by omega) (fun hq => ?_) (fun hq => ?_)
      · exfalso; omega
      · refine lv_iinc (v := zI 17) (lv' := [(1, .int (zI 17)), (0, .int (zI 536870911))]) hx hb dJ1_numberOfTrailingZeros_26 hl (k := 0) rfl ((zI_add _ _).trans (congrArg zI (by omega))) (by decide) rfl (fun ls hl => ?_)
        refine lv_iload_n hx hb dJ1_numberOfTrailingZeros_29 rfl (lv_at hl 1 rfl) ?_
        refine lv_bipush (v := zI 16) hx hb dJ1_numberOfTrailingZeros_30 (by decide +kernel) ?_
        refine lv_iushr (v := ((zI 536870911).toUInt32 >>> ((zI 16).toUInt32 &&& Int32.toUInt32 31)).toInt32) hx hb dJ1_numberOfTrailingZeros_32 rfl ?_
        refine lv_topx (zI 8191) (by decide +kernel) ?_
        refine lv_istore_n (lv' := [(0, .int (zI 8191)), (1, .int (zI 17))]) hx hb dJ1_numberOfTrailingZeros_33 rfl hl (by decide) rfl (fun ls hl => ?_)
        refine lv_iload_n hx hb dJ1_numberOfTrailingZeros_34 rfl (lv_at hl 0 rfl) ?_
        refine lv_sipush (v := zI 256) hx hb dJ1_numberOfTrailingZeros_35 (by decide +kernel) ?_
        refine g_cle (tgt := 49) hx hb dJ1_numberOfTrailingZeros_38 (by decide) (by omega) (fun hq => ?_) (fun hq => ?_)
        · exfalso; omega
        · refine lv_iinc (v := zI 25) (lv' := [(1, .int (zI 25)), (0, .int (zI 8191))]) hx hb dJ1_numberOfTrailingZeros_41 hl (k := 1) rfl ((zI_add _ _).trans (congrArg zI (by omega))) (by decide) rfl (fun ls hl => ?_)
          refine lv_iload_n hx hb dJ1_numberOfTrailingZeros_44 rfl (lv_at hl 1 rfl) ?_
          refine lv_bipush (v := zI 8) hx hb dJ1_numberOfTrailingZeros_45 (by decide +kernel) ?_
          refine lv_iushr (v := ((zI 8191).toUInt32 >>> ((zI 8).toUInt32 &&& Int32.toUInt32 31)).toInt32) hx hb dJ1_numberOfTrailingZeros_47 rfl ?_
          refine lv_topx (zI 31) (by decide +kernel) ?_
          refine lv_istore_n (lv' := [(0, .int (zI 31)), (1, .int (zI 25))]) hx hb dJ1_numberOfTrailingZeros_48 rfl hl (by decide) rfl (fun ls hl => ?_)
          refine lv_iload_n hx hb dJ1_numberOfTrailingZeros_49 rfl (lv_at hl 0 rfl) ?_
          refine lv_bipush (v := zI 16) hx hb dJ1_numberOfTrailingZeros_50 (by decide +kernel) ?_
          refine g_cle (tgt := 62) hx hb dJ1_numberOfTrailingZeros_52 (by decide) (by omega) (fun hq => ?_) (fun hq => ?_)
          · exfalso; omega
          · refine lv_iinc (v := zI 29) (lv' := [(1, .int (zI 29)), (0, .int (zI 31))]) hx hb dJ1_numberOfTrailingZeros_55 hl (k := 1) rfl ((zI_add _ _).trans (congrArg zI (by omega))) (by decide) rfl (fun ls hl => ?_)
            refine lv_iload_n hx hb dJ1_numberOfTrailingZeros_58 rfl (lv_at hl 1 rfl) ?_
            refine lv_iconst (v := zI 4) hx hb dJ1_numberOfTrailingZeros_59 (by decide +kernel) ?_
            refine lv_iushr (v := ((zI 31).toUInt32 >>> ((zI 4).toUInt32 &&& Int32.toUInt32 31)).toInt32) hx hb dJ1_numberOfTrailingZeros_60 rfl ?_
            refine lv_topx (zI 1) (by decide +kernel) ?_
            refine lv_istore_n (lv' := [(0, .int (zI 1)), (1, .int (zI 29))]) hx hb dJ1_numberOfTrailingZeros_61 rfl hl (by decide) rfl (fun ls hl => ?_)
            refine lv_iload_n hx hb dJ1_numberOfTrailingZeros_62 rfl (lv_at hl 0 rfl) ?_
            refine lv_iconst (v := zI 4) hx hb dJ1_numberOfTrailingZeros_63 (by decide +kernel) ?_
            refine g_cle (tgt := 74) hx hb dJ1_numberOfTrailingZeros_64 (by decide) (by omega) (fun hq => ?_) (fun hq => ?_)
            · refine lv_iload_n hx hb dJ1_numberOfTrailingZeros_74 rfl (lv_at hl 1 rfl) ?_
              refine lv_iload_n hx hb dJ1_numberOfTrailingZeros_75 rfl (lv_at hl 0 rfl) ?_
              refine lv_iconst (v := zI 1) hx hb dJ1_numberOfTrailingZeros_76 (by decide +kernel) ?_
              refine lv_iushr (v := ((zI 1).toUInt32 >>> ((zI 1).toUInt32 &&& Int32.toUInt32 31)).toInt32) hx hb dJ1_numberOfTrailingZeros_77 rfl ?_
              refine lv_topx (zI 0) (by decide +kernel) ?_
              refine g_iadd hx hb dJ1_numberOfTrailingZeros_78 ?_
              refine g_topz (y := 29) (by omega) ?_
              exact g_iret hx hb hr hlocks hG (⟨rfl, rfl, rfl, rfl⟩) ⟨Nat.le_of_ble_eq_true rfl, Nat.le_of_ble_eq_true rfl⟩ dJ1_numberOfTrailingZeros_79
            · exfalso; omega
    · exfalso; omega
  · subst hk9
    refine g_topz (y := 1073741823) (by decide) ?_
    refine lv_istore_n (lv' := [(0, .int (zI 1073741823))]) hx hb dJ1_numberOfTrailingZeros_7 rfl hl (by decide) rfl (fun ls hl => ?_)
    refine lv_iload_n hx hb dJ1_numberOfTrailingZeros_8 rfl (lv_at hl 0 rfl) ?_
    refine g_gt (tgt := 17) hx hb dJ1_numberOfTrailingZeros_9 (by decide) (by decide) (fun hq => ?_) (fun hq => ?_)
    · refine lv_iconst (v := zI 1) hx hb dJ1_numberOfTrailingZeros_17 (by decide +kernel) ?_
      refine lv_istore_n (lv' := [(1, .int (zI 1)), (0, .int (zI 1073741823))]) hx hb dJ1_numberOfTrailingZeros_18 rfl hl (by decide) rfl (fun ls hl => ?_)
      refine lv_iload_n hx hb dJ1_numberOfTrailingZeros_19 rfl (lv_at hl 1 rfl) ?_
      refine lv_ldcw (v := 65536) hx hb hown (hts _ q1896) dJ1_numberOfTrailingZeros_20 ?_
      refine lv_topx (zI 65536) (by decide +kernel) ?_
      refine g_cle (tgt := 34) hx hb dJ1_numberOfTrailingZeros_23 (by decide) (by omega) (fun hq => ?_) (fun hq => ?_)
      · exfalso; omega
      · refine lv_iinc (v := zI 17) (lv' := [(1, .int (zI 17)), (0, .int (zI 1073741823))]) hx hb dJ1_numberOfTrailingZeros_26 hl (k := 0) rfl ((zI_add _ _).trans (congrArg zI (by omega))) (by decide) rfl (fun ls hl => ?_)
        refine lv_iload_n hx hb dJ1_numberOfTrailingZeros_29 rfl (lv_at hl 1 rfl) ?_
        refine lv_bipush (v := zI 16) hx hb dJ1_numberOfTrailingZeros_30 (by decide +kernel) ?_
        refine lv_iushr (v := ((zI 1073741823).toUInt32 >>> ((zI 16).toUInt32 &&& Int32.toUInt32 31)).toInt32) hx hb dJ1_numberOfTrailingZeros_32 rfl ?_
        refine lv_topx (zI 16383) (by decide +kernel) ?_
        refine lv_istore_n (lv' := [(0, .int (zI 16383)), (1, .int (zI 17))]) hx hb dJ1_numberOfTrailingZeros_33 rfl hl (by decide) rfl (fun ls hl => ?_)
        refine lv_iload_n hx hb dJ1_numberOfTrailingZeros_34 rfl (lv_at hl 0 rfl) ?_
        refine lv_sipush (v := zI 256) hx hb dJ1_numberOfTrailingZeros_35 (by decide +kernel) ?_
        refine g_cle (tgt := 49) hx hb dJ1_numberOfTrailingZeros_38 (by decide) (by omega) (fun hq => ?_) (fun hq => ?_)
        · exfalso; omega
        · refine lv_iinc (v := zI 25) (lv' := [(1, .int (zI 25)), (0, .int (zI 16383))]) hx hb dJ1_numberOfTrailingZeros_41 hl (k := 1) rfl ((zI_add _ _).trans (congrArg zI (by omega))) (by decide) rfl (fun ls hl => ?_)
          refine lv_iload_n hx hb dJ1_numberOfTrailingZeros_44 rfl (lv_at hl 1 rfl) ?_
          refine lv_bipush (v := zI 8) hx hb dJ1_numberOfTrailingZeros_45 (by decide +kernel) ?_
          refine lv_iushr (v := ((zI 16383).toUInt32 >>> ((zI 8).toUInt32 &&& Int32.toUInt32 31)).toInt32) hx hb dJ1_numberOfTrailingZeros_47 rfl ?_
          refine lv_topx (zI 63) (by decide +kernel) ?_
          refine lv_istore_n (lv' := [(0, .int (zI 63)), (1, .int (zI 25))]) hx hb dJ1_numberOfTrailingZeros_48 rfl hl (by decide) rfl (fun ls hl => ?_)
          refine lv_iload_n hx hb dJ1_numberOfTrailingZeros_49 rfl (lv_at hl 0 rfl) ?_
          refine lv_bipush (v := zI 16) hx hb dJ1_numberOfTrailingZeros_50 (by decide +kernel) ?_
          refine g_cle (tgt := 62) hx hb dJ1_numberOfTrailingZeros_52 (by decide) (by omega) (fun hq => ?_) (fun hq => ?_)
          · exfalso; omega
          · refine lv_iinc (v := zI 29) (lv' := [(1, .int (zI 29)), (0, .int (zI 63))]) hx hb dJ1_numberOfTrailingZeros_55 hl (k := 1) rfl ((zI_add _ _).trans (congrArg zI (by omega))) (by decide) rfl (fun ls hl => ?_)
            refine lv_iload_n hx hb dJ1_numberOfTrailingZeros_58 rfl (lv_at hl 1 rfl) ?_
            refine lv_iconst (v := zI 4) hx hb dJ1_numberOfTrailingZeros_59 (by decide +kernel) ?_
            refine lv_iushr (v := ((zI 63).toUInt32 >>> ((zI 4).toUInt32 &&& Int32.toUInt32 31)).toInt32) hx hb dJ1_numberOfTrailingZeros_60 rfl ?_
            refine lv_topx (zI 3) (by decide +kernel) ?_
            refine lv_istore_n (lv' := [(0, .int (zI 3)), (1, .int (zI 29))]) hx hb dJ1_numberOfTrailingZeros_61 rfl hl (by decide) rfl (fun ls hl => ?_)
            refine lv_iload_n hx hb dJ1_numberOfTrailingZeros_62 rfl (lv_at hl 0 rfl) ?_
            refine lv_iconst (v := zI 4) hx hb dJ1_numberOfTrailingZeros_63 (by decide +kernel) ?_
            refine g_cle (tgt := 74) hx hb dJ1_numberOfTrailingZeros_64 (by decide) (by omega) (fun hq => ?_) (fun hq => ?_)
            · refine lv_iload_n hx hb dJ1_numberOfTrailingZeros_74 rfl (lv_at hl 1 rfl) ?_
              refine lv_iload_n hx hb dJ1_numberOfTrailingZeros_75 rfl (lv_at hl 0 rfl) ?_
              refine lv_iconst (v := zI 1) hx hb dJ1_numberOfTrailingZeros_76 (by decide +kernel) ?_
              refine lv_iushr (v := ((zI 3).toUInt32 >>> ((zI 1).toUInt32 &&& Int32.toUInt32 31)).toInt32) hx hb dJ1_numberOfTrailingZeros_77 rfl ?_
              refine lv_topx (zI 1) (by decide +kernel) ?_
              refine g_iadd hx hb dJ1_numberOfTrailingZeros_78 ?_
              refine g_topz (y := 30) (by omega) ?_
              exact g_iret hx hb hr hlocks hG (⟨rfl, rfl, rfl, rfl⟩) ⟨Nat.le_of_ble_eq_true rfl, Nat.le_of_ble_eq_true rfl⟩ dJ1_numberOfTrailingZeros_79
            · exfalso; omega
    · exfalso; omega
  · subst hk9
    refine g_topz (y := 2147483647) (by decide) ?_
    refine lv_istore_n (lv' := [(0, .int (zI 2147483647))]) hx hb dJ1_numberOfTrailingZeros_7 rfl hl (by decide) rfl (fun ls hl => ?_)
    refine lv_iload_n hx hb dJ1_numberOfTrailingZeros_8 rfl (lv_at hl 0 rfl) ?_
    refine g_gt (tgt := 17) hx hb dJ1_numberOfTrailingZeros_9 (by decide) (by decide) (fun hq => ?_) (fun hq => ?_)
    · refine lv_iconst (v := zI 1) hx hb dJ1_numberOfTrailingZeros_17 (by decide +kernel) ?_
      refine lv_istore_n (lv' := [(1, .int (zI 1)), (0, .int (zI 2147483647))]) hx hb dJ1_numberOfTrailingZeros_18 rfl hl (by decide) rfl (fun ls hl => ?_)
      refine lv_iload_n hx hb dJ1_numberOfTrailingZeros_19 rfl (lv_at hl 1 rfl) ?_
      refine lv_ldcw (v := 65536) hx hb hown (hts _ q1896) dJ1_numberOfTrailingZeros_20 ?_
      refine lv_topx (zI 65536) (by decide +kernel) ?_
      refine g_cle (tgt := 34) hx hb dJ1_numberOfTrailingZeros_23 (by decide) (by omega) (fun hq => ?_) (fun hq => ?_)
      · exfalso; omega
      · refine lv_iinc (v := zI 17) (lv' := [(1, .int (zI 17)), (0, .int (zI 2147483647))]) hx hb dJ1_numberOfTrailingZeros_26 hl (k := 0) rfl ((zI_add _ _).trans (congrArg zI (by omega))) (by decide) rfl (fun ls hl => ?_)
        refine lv_iload_n hx hb dJ1_numberOfTrailingZeros_29 rfl (lv_at hl 1 rfl) ?_
        refine lv_bipush (v := zI 16) hx hb dJ1_numberOfTrailingZeros_30 (by decide +kernel) ?_
        refine lv_iushr (v := ((zI 2147483647).toUInt32 >>> ((zI 16).toUInt32 &&& Int32.toUInt32 31)).toInt32) hx hb dJ1_numberOfTrailingZeros_32 rfl ?_
        refine lv_topx (zI 32767) (by decide +kernel) ?_
        refine lv_istore_n (lv' := [(0, .int (zI 32767)), (1, .int (zI 17))]) hx hb dJ1_numberOfTrailingZeros_33 rfl hl (by decide) rfl (fun ls hl => ?_)
        refine lv_iload_n hx hb dJ1_numberOfTrailingZeros_34 rfl (lv_at hl 0 rfl) ?_
        refine lv_sipush (v := zI 256) hx hb dJ1_numberOfTrailingZeros_35 (by decide +kernel) ?_
        refine g_cle (tgt := 49) hx hb dJ1_numberOfTrailingZeros_38 (by decide) (by omega) (fun hq => ?_) (fun hq => ?_)
        · exfalso; omega
        · refine lv_iinc (v := zI 25) (lv' := [(1, .int (zI 25)), (0, .int (zI 32767))]) hx hb dJ1_numberOfTrailingZeros_41 hl (k := 1) rfl ((zI_add _ _).trans (congrArg zI (by omega))) (by decide) rfl (fun ls hl => ?_)
          refine lv_iload_n hx hb dJ1_numberOfTrailingZeros_44 rfl (lv_at hl 1 rfl) ?_
          refine lv_bipush (v := zI 8) hx hb dJ1_numberOfTrailingZeros_45 (by decide +kernel) ?_
          refine lv_iushr (v := ((zI 32767).toUInt32 >>> ((zI 8).toUInt32 &&& Int32.toUInt32 31)).toInt32) hx hb dJ1_numberOfTrailingZeros_47 rfl ?_
          refine lv_topx (zI 127) (by decide +kernel) ?_
          refine lv_istore_n (lv' := [(0, .int (zI 127)), (1, .int (zI 25))]) hx hb dJ1_numberOfTrailingZeros_48 rfl hl (by decide) rfl (fun ls hl => ?_)
          refine lv_iload_n hx hb dJ1_numberOfTrailingZeros_49 rfl (lv_at hl 0 rfl) ?_
          refine lv_bipush (v := zI 16) hx hb dJ1_numberOfTrailingZeros_50 (by decide +kernel) ?_
          refine g_cle (tgt := 62) hx hb dJ1_numberOfTrailingZeros_52 (by decide) (by omega) (fun hq => ?_) (fun hq => ?_)
          · exfalso; omega
          · refine lv_iinc (v := zI 29) (lv' := [(1, .int (zI 29)), (0, .int (zI 127))]) hx hb dJ1_numberOfTrailingZeros_55 hl (k := 1) rfl ((zI_add _ _).trans (congrArg zI (by omega))) (by decide) rfl (fun ls hl => ?_)
            refine lv_iload_n hx hb dJ1_numberOfTrailingZeros_58 rfl (lv_at hl 1 rfl) ?_
            refine lv_iconst (v := zI 4) hx hb dJ1_numberOfTrailingZeros_59 (by decide +kernel) ?_
            refine lv_iushr (v := ((zI 127).toUInt32 >>> ((zI 4).toUInt32 &&& Int32.toUInt32 31)).toInt32) hx hb dJ1_numberOfTrailingZeros_60 rfl ?_
            refine lv_topx (zI 7) (by decide +kernel) ?_
            refine lv_istore_n (lv' := [(0, .int (zI 7)), (1, .int (zI 29))]) hx hb dJ1_numberOfTrailingZeros_61 rfl hl (by decide) rfl (fun ls hl => ?_)
            refine lv_iload_n hx hb dJ1_numberOfTrailingZeros_62 rfl (lv_at hl 0 rfl) ?_
            refine lv_iconst (v := zI 4) hx hb dJ1_numberOfTrailingZeros_63 (by decide +kernel) ?_
            refine g_cle (tgt := 74) hx hb dJ1_numberOfTrailingZeros_64 (by decide) (by omega) (fun hq => ?_) (fun hq => ?_)
            · exfalso; omega
            · refine lv_iinc (v := zI 31) (lv' := [(1, .int (zI 31)), (0, .int (zI 7))]) hx hb dJ1_numberOfTrailingZeros_67 hl (k := 1) rfl ((zI_add _ _).trans (congrArg zI (by omega))) (by decide) rfl (fun ls hl => ?_)
              refine lv_iload_n hx hb dJ1_numberOfTrailingZeros_70 rfl (lv_at hl 1 rfl) ?_
              refine lv_iconst (v := zI 2) hx hb dJ1_numberOfTrailingZeros_71 (by decide +kernel) ?_
              refine lv_iushr (v := ((zI 7).toUInt32 >>> ((zI 2).toUInt32 &&& Int32.toUInt32 31)).toInt32) hx hb dJ1_numberOfTrailingZeros_72 rfl ?_
              refine lv_topx (zI 1) (by decide +kernel) ?_
              refine lv_istore_n (lv' := [(0, .int (zI 1)), (1, .int (zI 31))]) hx hb dJ1_numberOfTrailingZeros_73 rfl hl (by decide) rfl (fun ls hl => ?_)
              refine lv_iload_n hx hb dJ1_numberOfTrailingZeros_74 rfl (lv_at hl 1 rfl) ?_
              refine lv_iload_n hx hb dJ1_numberOfTrailingZeros_75 rfl (lv_at hl 0 rfl) ?_
              refine lv_iconst (v := zI 1) hx hb dJ1_numberOfTrailingZeros_76 (by decide +kernel) ?_
              refine lv_iushr (v := ((zI 1).toUInt32 >>> ((zI 1).toUInt32 &&& Int32.toUInt32 31)).toInt32) hx hb dJ1_numberOfTrailingZeros_77 rfl ?_
              refine lv_topx (zI 0) (by decide +kernel) ?_
              refine g_iadd hx hb dJ1_numberOfTrailingZeros_78 ?_
              refine g_topz (y := 31) (by omega) ?_
              exact g_iret hx hb hr hlocks hG (⟨rfl, rfl, rfl, rfl⟩) ⟨Nat.le_of_ble_eq_true rfl, Nat.le_of_ble_eq_true rfl⟩ dJ1_numberOfTrailingZeros_79
    · exfalso; omega

set_option maxHeartbeats 4000000 in
theorem metJ38_numberOfTrailingZeros {l : Launch} {X : gX} {F : gF} {V : gV} {Z : va_W} {n k : Nat} (hlow : lowB n k) (hk : k < 32) : Met l yJ38_numberOfTrailingZeros (ws_ yJ38_numberOfTrailingZeros cJ38_numberOfTrailingZeros 3 (some FieldType.int)) ({ frames := 1, cells := 0, slots := 0, locals := 21 }) (gP X F V (Z) [.long (lN n)]) (gQi X (fun u G U ws => u = zI (k : Int) ∧ F = G ∧ V = U ∧ Z = ws)) 0 0 (gA X) := by
  refine Met.g (by decide) (Nat.le_of_ble_eq_true rfl) ?_
  intro p e s m below meth c ls hx hb hr hts hown hlocks hml hin hG hl
  have hl : lv_has ls 3 [(0, .long (lN n))] := hl
  refine lv_lload_n hx hb dJ38_numberOfTrailingZeros_0 rfl (lv_at hl 0 rfl) ?_
  refine lv_l2i (v := (lN n).toInt32) hx hb dJ38_numberOfTrailingZeros_1 rfl ?_
  refine lv_topx (nI n) (zI_lo n) ?_
  refine lv_istore_n (lv' := [(2, .int (nI n)), (0, .long (lN n))]) hx hb dJ38_numberOfTrailingZeros_2 rfl hl (by decide) rfl (fun ls hl => ?_)
  refine lv_iload_n hx hb dJ38_numberOfTrailingZeros_3 rfl (lv_at hl 0 rfl) ?_
  refine lv_if_ne (tgt := 21) hx hb dJ38_numberOfTrailingZeros_4 (by decide) (fun h1 => ?_) (fun h1 => ?_)
  · refine lv_iload_n hx hb dJ38_numberOfTrailingZeros_21 rfl (lv_at hl 0 rfl) ?_
    refine g_ci (va_runS (As := [.int (nI n)]) (rest := []) ⟨hx, hb, hml, hown, hts⟩ (metJ1_numberOfTrailingZeros (n := n) (k := k) hlow hk) (va_cwS 1 hts (lw_S q1893 q1894 q90 q1895) rfl rfl rfl (by decide +kernel) ⟨Nat.le_of_ble_eq_true rfl, Nat.le_of_ble_eq_true rfl⟩) (g_preS hG) rfl rfl hl.1 rfl (lv_room (Nat.le_of_ble_eq_true rfl)) dJ38_numberOfTrailingZeros_22 ⟨Nat.le_of_ble_eq_true rfl, Nat.le_of_ble_eq_true rfl⟩) hG (fun r_1 F_2 V_3 ws_ H locs hp hG => ?_)
    obtain ⟨rfl, rfl, rfl, rfl⟩ := hp
    have hG : gW X F V (Z) s H locs := hG
    exact g_iret hx hb hr hlocks hG (⟨rfl, rfl, rfl, rfl⟩) ⟨Nat.le_of_ble_eq_true rfl, Nat.le_of_ble_eq_true rfl⟩ dJ38_numberOfTrailingZeros_25
  · exact absurd h1 (lowB_nI hlow hk)

