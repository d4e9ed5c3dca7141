set_option maxRecDepth 100000
theorem wb_xor9 (a b : Nat) : lN a ^^^ lN b = lN (a ^^^ b) := by
  apply Int64.toBitVec_inj.mp
  apply BitVec.eq_of_toNat_eq
  rw [Int64.toBitVec_xor, BitVec.toNat_xor, wb_tb, wb_tb, wb_tb, BitVec.toNat_ofNat, BitVec.toNat_ofNat, BitVec.toNat_ofNat]
  refine Nat.eq_of_testBit_eq fun i => ?_
  rw [Nat.testBit_xor, Nat.testBit_mod_two_pow, Nat.testBit_mod_two_pow, Nat.testBit_mod_two_pow, Nat.testBit_xor]
  cases decide (i < 64) <;> rfl
theorem shr6 {i : Nat} (hi : i < 64) : zI (i : Int) >>> (zI 6 &&& 31) = zI 0 := by
  have h : (zI (i : Int) >>> (zI 6 &&& 31)).toInt = (zI (i : Int)).toInt / 2 ^ 6 := Jvm.Kit.i32_shr _ _ (by decide +kernel)
  rw [zI_of (zI (i : Int) >>> (zI 6 &&& 31)), h, zI_toInt ⟨by omega, by omega⟩]
  congr 1; omega
/-- the first from i on that isn't in, the first that is: fuel f -/
def nxC (x : Nat) : Nat → Nat → Nat
  | 0, i => i
  | f + 1, i => if x.testBit i = true then nxC x f (i + 1) else i
theorem lowB_of {n k : Nat} (h : ∀ j, j < k → n.testBit j = false) (hk : n.testBit k = true) : lowB n k := by
  refine Nat.eq_of_testBit_eq fun i => ?_
  rw [Nat.testBit_mod_two_pow, Nat.testBit_two_pow]
  by_cases hi : i < k
  · rw [h i hi, Bool.and_false, decide_eq_false (by omega)]
  · by_cases hik : i = k
    · subst hik; rw [hk, decide_eq_true (Nat.lt_succ_self _), decide_eq_true rfl]; rfl
    · rw [decide_eq_false (by omega), Bool.false_and, decide_eq_false (by omega)]
theorem nxC_R {x : Nat} (hx : x < 4294967296) : ∀ f i, i ≤ 32 → 32 - i ≤ f → i ≤ nxC x f i ∧ nxC x f i ≤ 32 ∧ x.testBit (nxC x f i) = false ∧ ∀ j, i ≤ j → j < nxC x f i → x.testBit j = true := by
  intro f
  have h32 : ∀ j, 32 ≤ j → x.testBit j = false := fun j hj => Nat.testBit_lt_two_pow (Nat.lt_of_lt_of_le (show x < 2 ^ 32 from hx) (Nat.pow_le_pow_right (by decide) hj))
  induction f with
  | zero => intro i hi hf; exact ⟨Nat.le_refl _, hi, h32 i (by omega), fun j h1 h2 => by have h2 : j < i := h2; omega⟩
  | succ f ih =>
    intro i hi hf
    unfold nxC
    by_cases hb : x.testBit i = true
    · rw [if_pos hb]
      have hi32 : i < 32 := by
        rcases Nat.lt_or_ge i 32 with q | q
        · exact q
        · rw [h32 i q] at hb; cases hb
      obtain ⟨q1, q2, q3, q4⟩ := ih (i + 1) (by omega) (by omega)
      refine ⟨by omega, q2, q3, fun j h1 h2 => ?_⟩
      by_cases hji : j = i
      · subst hji; exact hb
      · exact q4 j (by omega) h2
    · rw [if_neg hb]
      exact ⟨Nat.le_refl _, hi, by cases h : x.testBit i with | false => rfl | true => exact absurd h hb, fun j h1 h2 => by omega⟩
/-- where the next one is that isn't in: i to 31 -/
theorem low_clear {x i : Nat} (hx : x < 4294967296) (hi : i < 32) (h9 : nxC x 32 i < 32) : lowB ((x ^^^ 18446744073709551615) &&& ((18446744073709551615 * 2 ^ i) % 2 ^ 64)) (nxC x 32 i) := by
  obtain ⟨q1, q2, q3, q4⟩ := nxC_R hx 32 i (by omega) (by omega)
  have tb : ∀ j, j < 64 → ((x ^^^ 18446744073709551615) &&& ((18446744073709551615 * 2 ^ i) % 2 ^ 64)).testBit j = (!x.testBit j && decide (i ≤ j)) := fun j hj => by
    rw [Nat.testBit_and, Nat.testBit_xor, Nat.testBit_mod_two_pow, Nat.testBit_mul_two_pow, show (18446744073709551615 : Nat) = 2 ^ 64 - 1 from rfl, Nat.testBit_two_pow_sub_one, Nat.testBit_two_pow_sub_one, decide_eq_true hj, decide_eq_true (show j - i < 64 by omega)]
    cases x.testBit j <;> cases decide (i ≤ j) <;> rfl
  refine lowB_of (fun j hj => ?_) ?_
  · rw [tb j (by omega)]
    by_cases hij : i ≤ j
    · rw [q4 j hij hj]; rfl
    · rw [decide_eq_false hij, Bool.and_false]
  · rw [tb _ (by omega), q3, decide_eq_true q1]; rfl
def nxS (x : Nat) : Nat → Nat → Option Nat
  | 0, _ => none
  | f + 1, i => if x.testBit i = true then some i else nxS x f (i + 1)
theorem nxS_R {x : Nat} (hx : x < 4294967296) : ∀ f i, i ≤ 32 → 32 - i ≤ f → (∀ k, nxS x f i = some k → i ≤ k ∧ k < 32 ∧ x.testBit k = true ∧ ∀ j, i ≤ j → j < k → x.testBit j = false) ∧ (nxS x f i = none → ∀ j, i ≤ j → x.testBit j = false) := by
  intro f
  have h32 : ∀ j, 32 ≤ j → x.testBit j = false := fun j hj => Nat.testBit_lt_two_pow (Nat.lt_of_lt_of_le (show x < 2 ^ 32 from hx) (Nat.pow_le_pow_right (by decide) hj))
  induction f with
  | zero => intro i hi hf; exact ⟨fun k h => (by cases h), fun _ j hj => h32 j (by omega)⟩
  | succ f ih =>
    intro i hi hf
    unfold nxS
    by_cases hb : x.testBit i = true
    · rw [if_pos hb]
      have hi32 : i < 32 := by
        rcases Nat.lt_or_ge i 32 with q | q
        · exact q
        · rw [h32 i q] at hb; cases hb
      exact ⟨fun k h => by cases h; exact ⟨Nat.le_refl _, hi32, hb, fun j h1 h2 => by omega⟩, fun h => by cases h⟩
    · rw [if_neg hb]
      have hb0 : x.testBit i = false := by cases h : x.testBit i with | false => rfl | true => exact absurd h hb
      by_cases hi32 : i = 32
      · subst hi32
        have hn : ∀ g k, nxS x g k = none ∨ k < 32 := by
          intro g
          induction g with
          | zero => intro k; exact Or.inl rfl
          | succ g ihg =>
            intro k
            rcases Nat.lt_or_ge k 32 with q | q
            · exact Or.inr q
            · refine Or.inl ?_
              unfold nxS
              rw [if_neg (by rw [h32 k q]; exact nofun)]
              rcases ihg (k + 1) with r | r
              · exact r
              · omega
        have hn2 := (hn f (32 + 1)).elim id (fun q => by omega)
        rw [hn2]
        exact ⟨fun k h => (by cases h), fun _ j hj => h32 j hj⟩
      · obtain ⟨q1, q2⟩ := ih (i + 1) (by omega) (by omega)
        refine ⟨fun k hk => ?_, fun hk j hj => ?_⟩
        · obtain ⟨r1, r2, r3, r4⟩ := q1 k hk
          exact ⟨by omega, r2, r3, fun j h1 h2 => by by_cases hji : j = i; (subst hji; exact hb0); exact r4 j (by omega) h2⟩
        · by_cases hji : j = i
          · subst hji; exact hb0
          · exact q2 hk j (by omega)
theorem tb_set {x i : Nat} (hx : x < 4294967296) (hi : i < 64) : ∀ j, j < 64 → (x &&& ((18446744073709551615 * 2 ^ i) % 2 ^ 64)).testBit j = (x.testBit j && decide (i ≤ j)) := fun j hj => by
  rw [Nat.testBit_and, Nat.testBit_mod_two_pow, Nat.testBit_mul_two_pow, show (18446744073709551615 : Nat) = 2 ^ 64 - 1 from rfl, Nat.testBit_two_pow_sub_one, decide_eq_true hj, decide_eq_true (show j - i < 64 by omega)]
  cases x.testBit j <;> cases decide (i ≤ j) <;> rfl
theorem low_set {x i k : Nat} (hx : x < 4294967296) (hi : i < 32) (h9 : nxS x 32 i = some k) : lowB (x &&& ((18446744073709551615 * 2 ^ i) % 2 ^ 64)) k ∧ k < 32 := by
  obtain ⟨q1, q2, q3, q4⟩ := (nxS_R hx 32 i (by omega) (by omega)).1 k h9
  refine ⟨lowB_of (fun j hj => ?_) ?_, q2⟩
  · rw [tb_set hx (by omega) j (by omega)]
    by_cases hij : i ≤ j
    · rw [q4 j hij hj]; rfl
    · rw [decide_eq_false hij, Bool.and_false]
  · rw [tb_set hx (by omega) k (by omega), q3, decide_eq_true q1]; rfl
theorem low_none {x i : Nat} (hx : x < 4294967296) (hi : i < 32) (h9 : nxS x 32 i = none) : x &&& ((18446744073709551615 * 2 ^ i) % 2 ^ 64) = 0 := by
  have q := (nxS_R hx 32 i (by omega) (by omega)).2 h9
  refine Nat.eq_of_testBit_eq fun j => ?_
  rw [Nat.zero_testBit]
  rcases Nat.lt_or_ge j 64 with hj | hj
  · rw [tb_set hx (by omega) j hj]
    by_cases hij : i ≤ j
    · rw [q j hij]; rfl
    · rw [decide_eq_false hij, Bool.and_false]
  · rw [Nat.testBit_and, Nat.testBit_mod_two_pow, decide_eq_false (by omega), Bool.false_and, Bool.and_false]
theorem lN_z {n : Nat} (h : n < 18446744073709551616) : lN n = zL 0 ↔ n = 0 := by
  rw [show zL 0 = lN 0 from zL_lN 0]
  refine ⟨fun q => ?_, fun q => by rw [q]⟩
  have := congrArg (fun z => z.toBitVec.toNat) q
  have h1 : (lN n).toBitVec.toNat = n := wb_tn h
  have h2 : (lN 0).toBitVec.toNat = 0 := wb_tn (by decide)
  have this : (lN n).toBitVec.toNat = (lN 0).toBitVec.toNat := this
  omega
theorem tb_and {x i : Nat} : (x &&& 2 ^ i = 0) ↔ x.testBit i = false := by
  refine ⟨fun h => ?_, fun h => Nat.eq_of_testBit_eq fun j => ?_⟩
  · have := congrArg (fun z => z.testBit i) h
    have this : (x &&& 2 ^ i).testBit i = (0 : Nat).testBit i := this
    rw [Nat.testBit_and, Nat.testBit_two_pow, decide_eq_true rfl, Bool.and_true, Nat.zero_testBit] at this
    exact this
  · rw [Nat.testBit_and, Nat.testBit_two_pow, Nat.zero_testBit]
    by_cases hij : i = j
    · subst hij; rw [h]; rfl
    · rw [decide_eq_false hij, Bool.and_false]
theorem tb_or {x i j : Nat} : (x ||| 2 ^ i).testBit j = (x.testBit j || decide (i = j)) := by rw [Nat.testBit_or, Nat.testBit_two_pow]
/-- a set of bits below 32 in one word: iu words are in use -/
def bsR (x : Nat) (iu : Int) (f : Nat → Int64) : Prop := f 0 = lN x ∧ x < 4294967296 ∧ ((iu = 0 ∧ x = 0) ∨ iu = 1)
theorem bsR.set {x i : Nat} {iu : Int} {f : Nat → Int64} (h : bsR x iu f) (hi : i < 32) : bsR (x ||| 2 ^ i) 1 (vp_updL f 0 (lN (x ||| 2 ^ i))) := by
  refine ⟨if_pos rfl, ?_, Or.inr rfl⟩
  have h1 : x < 2 ^ 32 := h.2.1
  have h2 : 2 ^ i < 2 ^ 32 := Nat.pow_lt_pow_right (by decide) hi
  exact Nat.or_lt_two_pow h1 h2
set_option maxHeartbeats 4000000 in
theorem metJ37_wordIndex {l : Launch} {X : gX} {F : gF} {V : gV} {Z : va_W} {i : Nat} (hi : i < 64) : Met l yJ37_wordIndex (ws_ yJ37_wordIndex cJ37_wordIndex 1 (some FieldType.int)) ({ frames := 0, cells := 0, slots := 0, locals := 0 }) (gP X F V (Z) [.int (zI (i : Int))]) (gQi X (fun u G U ws => u = zI 0 ∧ F = G ∧ V = U ∧ Z = ws)) 0 0 (gA X) := by
  refine Met.g (by decide) (Nat.le_of_ble_eq_true rfl) ?_
  intro p e s m below meth c ls hx hb hr hts hown hlocks hml hin hG hl
  have hl : lv_has ls 1 [(0, .int (zI (i : Int)))] := hl
  refine lv_iload_n hx hb dJ37_wordIndex_0 rfl (lv_at hl 0 rfl) ?_
  refine lv_bipush (v := zI 6) hx hb dJ37_wordIndex_1 (by decide +kernel) ?_
  refine lv_ishr hx hb dJ37_wordIndex_3 ?_
  refine lv_topx (zI 0) (shr6 hi) ?_
  exact g_iret hx hb hr hlocks hG (⟨rfl, rfl, rfl, rfl⟩) ⟨Nat.le_of_ble_eq_true rfl, Nat.le_of_ble_eq_true rfl⟩ dJ37_wordIndex_4

set_option maxHeartbeats 4000000 in
theorem metJ37_checkInvariants {l : Launch} {X : gX} {F : gF} {V : gV} {Z : va_W} {b : Nat} : Met l yJ37_checkInvariants (ws_ yJ37_checkInvariants cJ37_checkInvariants 1 none) ({ frames := 0, cells := 0, slots := 0, locals := 0 }) (gP X F V (Z) [.ref b]) (gQv X (fun G U ws => F = G ∧ V = U ∧ Z = ws)) 0 0 (gA X) := by
  refine Met.g (by decide) (Nat.le_of_ble_eq_true rfl) ?_
  intro p e s m below meth c ls hx hb hr hts hown hlocks hml hin hG hl
  have hl : lv_has ls 1 [(0, .ref b)] := hl
  refine va_gets hx hb hG.1.2.2.2.1 hG.2.2 hown (hts _ q1868) (fun _ h9 => h9) dJ37_checkInvariants_0 ?_
  refine lv_topx (zI 1) (by decide +kernel) ?_
  refine g_ne (tgt := 37) hx hb dJ37_checkInvariants_3 (by decide) (by decide) (fun hq => ?_) (fun hq => ?_)
  · refine va_gets hx hb hG.1.2.2.2.1 hG.2.2 hown (hts _ q1868) (fun _ h9 => h9) dJ37_checkInvariants_37 ?_
    refine lv_topx (zI 1) (by decide +kernel) ?_
    refine g_ne (tgt := 70) hx hb dJ37_checkInvariants_40 (by decide) (by decide) (fun hq => ?_) (fun hq => ?_)
    · refine va_gets hx hb hG.1.2.2.2.1 hG.2.2 hown (hts _ q1868) (fun _ h9 => h9) dJ37_checkInvariants_70 ?_
      refine lv_topx (zI 1) (by decide +kernel) ?_
      refine g_ne (tgt := 110) hx hb dJ37_checkInvariants_73 (by decide) (by decide) (fun hq => ?_) (fun hq => ?_)
      · exact g_vret hx hb hr hlocks hG (⟨rfl, rfl, rfl⟩) ⟨Nat.le_of_ble_eq_true rfl, Nat.le_of_ble_eq_true rfl⟩ dJ37_checkInvariants_110
      · exfalso; omega
    · exfalso; omega
  · exfalso; omega

set_option maxHeartbeats 4000000 in
theorem metJ37_ensureCapacity {l : Launch} {X : gX} {F : gF} {V : gV} {Z : va_W} {b wd : Nat} {iu : Int} {f : Nat → Int64} : Met l yJ37_ensureCapacity (ws_ yJ37_ensureCapacity cJ37_ensureCapacity 3 none) ({ frames := 0, cells := 0, slots := 0, locals := 0 }) (gP X F V ((b, oB 32 [.ref wd, .int (zI iu), .int (zI 0)]) :: (wd, aL (gT X 1) 1 f) :: Z) [.ref b, .int (zI 1)]) (gQv X (fun G U ws => F = G ∧ V = U ∧ ((b, oB 32 [.ref wd, .int (zI iu), .int (zI 0)]) :: (wd, aL (gT X 1) 1 f) :: Z) = ws)) 0 0 (gA X) := by
  refine Met.g (by decide) (Nat.le_of_ble_eq_true rfl) ?_
  intro p e s m below meth c ls hx hb hr hts hown hlocks hml hin hG hl
  have hl : lv_has ls 3 [(0, .ref b), (1, .int (zI 1))] := hl
  refine lv_aload_n hx hb dJ37_ensureCapacity_0 rfl (lv_at hl 0 rfl) ?_
  refine g_get (ci := 32) hx hb hts in_J37 hown hG (hG.at 0 rfl) rfl 0 (Nat.le_of_ble_eq_true rfl) (hts _ q1803) (fun _ h9 => h9) rfl dJ37_ensureCapacity_1 ?_
  refine g_alen hx hb hG 1 rfl (hG.at 1 rfl) dJ37_ensureCapacity_4 ?_
  refine g_topz (y := 1) rfl ?_
  refine lv_iload_n hx hb dJ37_ensureCapacity_5 rfl (lv_at hl 1 rfl) ?_
  refine g_cge (tgt := 38) hx hb dJ37_ensureCapacity_6 (by decide) (by omega) (fun h1 => ?_) (fun h1 => ?_)
  · exact g_vret hx hb hr hlocks hG (⟨rfl, rfl, rfl⟩) ⟨Nat.le_of_ble_eq_true rfl, Nat.le_of_ble_eq_true rfl⟩ dJ37_ensureCapacity_38
  · exfalso; omega

set_option maxHeartbeats 4000000 in
theorem metJ37_expandTo {l : Launch} {X : gX} {F : gF} {V : gV} {Z : va_W} {b wd : Nat} {iu : Int} {f : Nat → Int64} (hiu : iu = 0 ∨ iu = 1) : Met l yJ37_expandTo (ws_ yJ37_expandTo cJ37_expandTo 3 none) ({ frames := 1, cells := 0, slots := 0, locals := 22 }) (gP X F V ((b, oB 32 [.ref wd, .int (zI iu), .int (zI 0)]) :: (wd, aL (gT X 1) 1 f) :: Z) [.ref b, .int (zI 0)]) (gQv X (fun G U ws => F = G ∧ V = U ∧ ((b, oB 32 [.ref wd, .int (zI 1), .int (zI 0)]) :: (wd, aL (gT X 1) 1 f) :: Z) = ws)) 0 0 (gA X) := by
  refine Met.g (by decide) (Nat.le_of_ble_eq_true rfl) ?_
  intro p e s m below meth c ls hx hb hr hts hown hlocks hml hin hG hl
  have hl : lv_has ls 3 [(0, .ref b), (1, .int (zI 0))] := hl
  refine lv_iload_n hx hb dJ37_expandTo_0 rfl (lv_at hl 1 rfl) ?_
  refine lv_iconst (v := zI 1) hx hb dJ37_expandTo_1 (by decide +kernel) ?_
  refine g_iadd hx hb dJ37_expandTo_2 ?_
  refine g_topz (y := 1) (by omega) ?_
  refine lv_istore_n (lv' := [(2, .int (zI 1)), (0, .ref b), (1, .int (zI 0))]) hx hb dJ37_expandTo_3 rfl hl (by decide) rfl (fun ls hl => ?_)
  refine lv_aload_n hx hb dJ37_expandTo_4 rfl (lv_at hl 1 rfl) ?_
  refine g_get (ci := 32) hx hb hts in_J37 hown hG (hG.at 0 rfl) rfl 1 (Nat.le_of_ble_eq_true rfl) (hts _ q1804) (fun _ h9 => h9) rfl dJ37_expandTo_5 ?_
  refine lv_iload_n hx hb dJ37_expandTo_8 rfl (lv_at hl 0 rfl) ?_
  refine g_cge (tgt := 22) hx hb dJ37_expandTo_9 (by decide) (by omega) (fun h1 => ?_) (fun h1 => ?_)
  · have hiu1 : iu = 1 := by omega
    subst hiu1
    exact g_vret hx hb hr hlocks hG (⟨rfl, rfl, rfl⟩) ⟨Nat.le_of_ble_eq_true rfl, Nat.le_of_ble_eq_true rfl⟩ dJ37_expandTo_22
  · refine lv_aload_n hx hb dJ37_expandTo_12 rfl (lv_at hl 1 rfl) ?_
    refine lv_iload_n hx hb dJ37_expandTo_13 rfl (lv_at hl 0 rfl) ?_
    refine g_cv (va_runV (As := [.int (zI 1)]) (rest := []) ⟨hx, hb, hml, hown, hts⟩ (metJ37_ensureCapacity) (cwV 1 hts (lw_V q1851 q1853 qs25 q142 q1854) rfl rfl rfl (by decide +kernel) ⟨Nat.le_of_ble_eq_true rfl, Nat.le_of_ble_eq_true rfl⟩) (g_preV hG (g_recv hG (hG.at 0 rfl) (ci := 32) rfl)) rfl rfl hl.1 rfl (lv_room (Nat.le_of_ble_eq_true rfl)) dJ37_expandTo_14 ⟨Nat.le_of_ble_eq_true rfl, Nat.le_of_ble_eq_true rfl⟩) hG (fun F_2 V_3 ws_ H locs hp hG => ?_)
    obtain ⟨rfl, rfl, rfl⟩ := hp
    have hG : gW X F V ((b, oB 32 [.ref wd, .int (zI iu), .int (zI 0)]) :: (wd, aL (gT X 1) 1 f) :: Z) s H locs := hG
    refine lv_aload_n hx hb dJ37_expandTo_17 rfl (lv_at hl 1 rfl) ?_
    refine lv_iload_n hx hb dJ37_expandTo_18 rfl (lv_at hl 0 rfl) ?_
    refine g_put (ci := 32) hx hb hts in_J37 tyJ37 tyJ37_ok nmJ37 hown hG 0 rfl rfl 1 (Nat.le_of_ble_eq_true rfl) (hts _ q1804) (fun _ h9 => h9) rfl (tyJ37_ok 1 (Nat.le_of_ble_eq_true rfl)) rfl rfl (Nat.le_of_ble_eq_true rfl) dJ37_expandTo_19 (fun H locs (hG : gW X F V ((b, oB 32 [.ref wd, .int (zI 1), .int (zI 0)]) :: (wd, aL (gT X 1) 1 f) :: Z) s H locs) => ?_)
    exact g_vret hx hb hr hlocks hG (⟨rfl, rfl, rfl⟩) ⟨Nat.le_of_ble_eq_true rfl, Nat.le_of_ble_eq_true rfl⟩ dJ37_expandTo_22

set_option maxHeartbeats 4000000 in
theorem metJ37_initWords {l : Launch} {X : gX} {F : gF} {V : gV} {Z : va_W} {b : Nat} : Met l yJ37_initWords (ws_ yJ37_initWords cJ37_initWords 2 none) ({ frames := 1, cells := 1, slots := 1, locals := 20 }) (gP X F V ((b, oB 32 [.null, .int (zI 0), .int (zI 0)]) :: Z) [.ref b, .int (zI 64)]) (gQv X (fun G U ws => F = G ∧ V = U ∧ ∃ wd : Nat, ((wd, aL (gT X 1) 1 (fun _ => 0)) :: (b, oB 32 [.ref wd, .int (zI 0), .int (zI 0)]) :: Z) = ws)) 1 1 (gA X) := by
  refine Met.g (by decide) (Nat.le_of_ble_eq_true rfl) ?_
  intro p e s m below meth c ls hx hb hr hts hown hlocks hml hin hG hl
  have hl : lv_has ls 2 [(0, .ref b), (1, .int (zI 64))] := hl
  refine lv_aload_n hx hb dJ37_initWords_0 rfl (lv_at hl 0 rfl) ?_
  refine lv_iload_n hx hb dJ37_initWords_1 rfl (lv_at hl 1 rfl) ?_
  refine lv_iconst (v := zI 1) hx hb dJ37_initWords_2 (by decide +kernel) ?_
  refine g_isub hx hb dJ37_initWords_3 ?_
  refine g_topz (y := 63) (by omega) ?_
  refine g_ci (va_runS (As := [.int (zI 63)]) (rest := [.ref b]) ⟨hx, hb, hml, hown, hts⟩ (metJ37_wordIndex (i := 63) (by omega)) (va_cwS 1 hts (lw_S q1800 q1801 q142 q1802) rfl rfl rfl (by decide +kernel) ⟨Nat.le_of_ble_eq_true rfl, Nat.le_of_ble_eq_true rfl⟩) (g_preS hG) rfl rfl hl.1 rfl (lv_room (Nat.le_of_ble_eq_true rfl)) dJ37_initWords_4 ⟨Nat.le_of_ble_eq_true rfl, Nat.le_of_ble_eq_true rfl⟩) hG (fun r_1 F_2 V_3 ws_ H locs hp hG => ?_)
  obtain ⟨rfl, rfl, rfl, rfl⟩ := hp
  have hG : gW X F V ((b, oB 32 [.null, .int (zI 0), .int (zI 0)]) :: Z) s H locs := hG
  refine lv_iconst (v := zI 1) hx hb dJ37_initWords_7 (by decide +kernel) ?_
  refine g_iadd hx hb dJ37_initWords_8 ?_
  refine g_topz (y := 1) (by omega) ?_
  refine g_newa (atype := .long) hx hb (hts _ q588) 1 rfl rfl (fun h => h) hG (N := 1) (a0 := (1, .inr (.inl (fun _ => 0)))) (fun _ => rfl) ⟨rfl, by decide⟩ (by decide) ⟨Nat.le_of_ble_eq_true rfl, Nat.le_of_ble_eq_true rfl⟩ dJ37_initWords_9 (fun wd H (hG : gW X F V ((wd, aL (gT X 1) 1 (fun _ => 0)) :: (b, oB 32 [.null, .int (zI 0), .int (zI 0)]) :: Z) s H _) => ?_)
  refine g_put (ci := 32) hx hb hts in_J37 tyJ37 tyJ37_ok nmJ37 hown hG 1 rfl rfl 0 (Nat.le_of_ble_eq_true rfl) (hts _ q1803) (fun _ h9 => h9) rfl (tyJ37_ok 0 (Nat.le_of_ble_eq_true rfl)) rfl rfl (Nat.le_of_ble_eq_true rfl) dJ37_initWords_11 (fun H locs (hG : gW X F V ((wd, aL (gT X 1) 1 (fun _ => 0)) :: (b, oB 32 [.ref wd, .int (zI 0), .int (zI 0)]) :: Z) s H locs) => ?_)
  exact g_vret hx hb hr hlocks hG (⟨rfl, rfl, wd, rfl⟩) ⟨Nat.le_of_ble_eq_true rfl, Nat.le_of_ble_eq_true rfl⟩ dJ37_initWords_14

set_option maxHeartbeats 4000000 in
theorem metJ37_init {l : Launch} {X : gX} {F : gF} {V : gV} {Z : va_W} {b : Nat} : Met l yJ37_init (ws_ yJ37_init cJ37_init 1 none) ({ frames := 2, cells := 1, slots := 1, locals := 41 }) (gP X F V ((b, oB 32 [.null, .int (zI 0), .int (zI 0)]) :: Z) [.ref b]) (gQv X (fun G U ws => F = G ∧ V = U ∧ ∃ wd : Nat, ((wd, aL (gT X 1) 1 (fun _ => 0)) :: (b, oB 32 [.ref wd, .int (zI 0), .int (zI 0)]) :: Z) = ws)) 1 1 (gA X) := by
  refine Met.g (by decide) (Nat.le_of_ble_eq_true rfl) ?_
  intro p e s m below meth c ls hx hb hr hts hown hlocks hml hin hG hl
  have hl : lv_has ls 1 [(0, .ref b)] := hl
  refine lv_aload_n hx hb dJ37_init_0 rfl (lv_at hl 0 rfl) ?_
  refine W.objInit hx hb hown (hts _ q1795) (hts _ q170) (hts _ q171) rfl (by rw [hml]; exact hl.1) rfl dJ37_init_1 (Nat.le_of_ble_eq_true rfl) (Nat.le_of_ble_eq_true rfl) ?_
  refine W.eq (g2 := F0 m 4 ls []) rfl ?_
  refine lv_aload_n hx hb dJ37_init_4 rfl (lv_at hl 0 rfl) ?_
  refine lv_iconst (v := zI 0) hx hb dJ37_init_5 (by decide +kernel) ?_
  refine g_put (ci := 32) hx hb hts in_J37 tyJ37 tyJ37_ok nmJ37 hown hG 0 rfl rfl 1 (Nat.le_of_ble_eq_true rfl) (hts _ q1804) (fun _ h9 => h9) rfl (tyJ37_ok 1 (Nat.le_of_ble_eq_true rfl)) rfl rfl (Nat.le_of_ble_eq_true rfl) dJ37_init_6 (fun H locs (hG : gW X F V ((b, oB 32 [.null, .int (zI 0), .int (zI 0)]) :: Z) s H locs) => ?_)
  refine lv_aload_n hx hb dJ37_init_9 rfl (lv_at hl 0 rfl) ?_
  refine lv_iconst (v := zI 0) hx hb dJ37_init_10 (by decide +kernel) ?_
  refine g_put (ci := 32) hx hb hts in_J37 tyJ37 tyJ37_ok nmJ37 hown hG 0 rfl rfl 2 (Nat.le_of_ble_eq_true rfl) (hts _ q1805) (fun _ h9 => h9) rfl (tyJ37_ok 2 (Nat.le_of_ble_eq_true rfl)) rfl rfl (Nat.le_of_ble_eq_true rfl) dJ37_init_11 (fun H locs (hG : gW X F V ((b, oB 32 [.null, .int (zI 0), .int (zI 0)]) :: Z) s H locs) => ?_)
  refine lv_aload_n hx hb dJ37_init_14 rfl (lv_at hl 0 rfl) ?_
  refine lv_bipush (v := zI 64) hx hb dJ37_init_15 (by decide +kernel) ?_
  refine g_cv (va_runV (As := [.int (zI 64)]) (rest := []) ⟨hx, hb, hml, hown, hts⟩ (metJ37_initWords) (cwV 1 hts (lw_V q1796 q1798 qs20 q142 q1799) rfl rfl rfl (by decide +kernel) ⟨Nat.le_of_ble_eq_true rfl, Nat.le_of_ble_eq_true rfl⟩) (g_preV hG (g_recv hG (hG.at 0 rfl) (ci := 32) rfl)) rfl rfl hl.1 rfl (lv_room (Nat.le_of_ble_eq_true rfl)) dJ37_init_17 ⟨Nat.le_of_ble_eq_true rfl, Nat.le_of_ble_eq_true rfl⟩) hG (fun F_2 V_3 ws_ H locs hp hG => ?_)
  obtain ⟨rfl, rfl, wd, rfl⟩ := hp
  have hG : gW X F V ((wd, aL (gT X 1) 1 (fun _ => 0)) :: (b, oB 32 [.ref wd, .int (zI 0), .int (zI 0)]) :: Z) s H locs := hG
  refine lv_aload_n hx hb dJ37_init_20 rfl (lv_at hl 0 rfl) ?_
  refine lv_iconst (v := zI 0) hx hb dJ37_init_21 (by decide +kernel) ?_
  refine g_put (ci := 32) hx hb hts in_J37 tyJ37 tyJ37_ok nmJ37 hown hG 1 rfl rfl 2 (Nat.le_of_ble_eq_true rfl) (hts _ q1805) (fun _ h9 => h9) rfl (tyJ37_ok 2 (Nat.le_of_ble_eq_true rfl)) rfl rfl (Nat.le_of_ble_eq_true rfl) dJ37_init_22 (fun H locs (hG : gW X F V ((wd, aL (gT X 1) 1 (fun _ => 0)) :: (b, oB 32 [.ref wd, .int (zI 0), .int (zI 0)]) :: Z) s H locs) => ?_)
  exact g_vret hx hb hr hlocks hG (⟨rfl, rfl, wd, rfl⟩) ⟨Nat.le_of_ble_eq_true rfl, Nat.le_of_ble_eq_true rfl⟩ dJ37_init_25

