set_option maxRecDepth 100000
theorem cnB_cg {P Q : Nat → Bool} : ∀ {n}, (∀ i, i < n → P i = Q i) → cnB P n = cnB Q n := by
  intro n
  induction n with
  | zero => intro _; rfl
  | succ n ih => intro h; rw [cnB_S, cnB_S, ih (fun i hi => h i (by omega)), h n (by omega)]
theorem cnB_mono {P Q : Nat → Bool} : ∀ {n}, (∀ i, i < n → P i = true → Q i = true) → cnB P n ≤ cnB Q n := by
  intro n
  induction n with
  | zero => intro _; exact Nat.le_refl _
  | succ n ih =>
    intro h
    have h1 := ih (fun i hi => h i (by omega))
    have h2 := h n (by omega)
    rw [cnB_S, cnB_S]
    by_cases hp : P n = true
    · rw [if_pos hp, if_pos (h2 hp)]; omega
    · rw [if_neg hp]; omega
theorem cnB_up1 {P Q : Nat → Bool} {x : Nat} (hp : P x = false) (hq : Q x = true) : ∀ {n}, x < n → (∀ i, i < n → i ≠ x → P i = Q i) → cnB Q n = cnB P n + 1 := by
  intro n
  induction n with
  | zero => intro h; omega
  | succ n ih =>
    intro h k
    rw [cnB_S, cnB_S]
    by_cases hx : x = n
    · subst hx
      rw [if_pos hq, if_neg (by rw [hp]; exact nofun), cnB_cg (fun i hi => k i (by omega) (by omega))]
    · rw [ih (by omega) (fun i hi => k i (by omega)), k n (by omega) (fun q => hx q.symm)]; omega
theorem cnB_00 : ∀ n, cnB (fun _ => false) n = 0 := by
  intro n
  induction n with
  | zero => rfl
  | succ n ih => rw [cnB_S, ih]; rfl
/-- how many stand before (at, m) -/
def ioB (sp : Nat → Option Nat) (at_ m j : Nat) : Bool := match sp j with
  | none => false
  | some q => decide (q < at_ ∨ (q = at_ ∧ j < m))
def ioR (sp : Nat → Option Nat) (M at_ m : Nat) : Nat := cnB (ioB sp at_ m) M
theorem ioB_t {sp : Nat → Option Nat} {at_ m j : Nat} : ioB sp at_ m j = true ↔ ∃ q, sp j = some q ∧ (q < at_ ∨ (q = at_ ∧ j < m)) := by
  unfold ioB
  cases h : sp j with
  | none => exact ⟨fun q => (by cases q), fun ⟨q, e, _⟩ => by cases e⟩
  | some q => exact decide_eq_true_iff.trans ⟨fun h => ⟨q, rfl, h⟩, fun ⟨r, e, h⟩ => by cases e; exact h⟩
theorem ioB_e {sp : Nat → Option Nat} {a m b n j : Nat} (h : ∀ q, sp j = some q → ((q < a ∨ (q = a ∧ j < m)) ↔ (q < b ∨ (q = b ∧ j < n)))) : ioB sp a m j = ioB sp b n j := by
  unfold ioB
  cases hs : sp j with
  | none => rfl
  | some q => exact decide_eq_decide.mpr (h q hs)
theorem ioR_0 {sp : Nat → Option Nat} {M : Nat} : ioR sp M 0 0 = 0 := by
  unfold ioR
  rw [cnB_cg (Q := fun _ => false) (fun i _ => Bool.eq_false_iff.mpr (fun q => by obtain ⟨x, _, h⟩ := ioB_t.mp q; omega))]
  exact cnB_00 M
theorem ioR_n {sp : Nat → Option Nat} {M a x : Nat} (h : sp x ≠ some a) : ioR sp M a (x + 1) = ioR sp M a x :=
  cnB_cg (fun i _ => ioB_e (fun q hq => by
    by_cases hix : i = x
    · subst hix; have : q ≠ a := fun e => h (by rw [hq, e]); omega
    · omega))
theorem ioR_y {sp : Nat → Option Nat} {M a x : Nat} (h : sp x = some a) (hx : x < M) : ioR sp M a (x + 1) = ioR sp M a x + 1 :=
  cnB_up1 (Bool.eq_false_iff.mpr (fun q => by obtain ⟨y, e, k⟩ := ioB_t.mp q; rw [h] at e; cases e; omega)) (ioB_t.mpr ⟨a, h, by omega⟩) hx (fun i _ hix => ioB_e (fun q _ => by omega))
theorem ioR_row {sp : Nat → Option Nat} {M a : Nat} : ioR sp M (a + 1) 0 = ioR sp M a M := cnB_cg (fun i hi => ioB_e (fun q _ => by omega))
theorem ioR_le {sp : Nat → Option Nat} {M a m b n : Nat} (h : a < b ∨ (a = b ∧ m ≤ n)) : ioR sp M a m ≤ ioR sp M b n :=
  cnB_mono (fun i _ q => by obtain ⟨y, e, k⟩ := ioB_t.mp q; exact ioB_t.mpr ⟨y, e, by omega⟩)
theorem fsB_some {P : Nat → Bool} {x : Nat} (hx : P x = true) : ∀ k j, j ≤ x → x < j + k → (∀ i, j ≤ i → i < x → P i = false) → fsB P k j = some x := by
  intro k
  induction k with
  | zero => intro j h1 h2; omega
  | succ k ih =>
    intro j h1 h2 h
    unfold fsB
    by_cases hj : j = x
    · subst hj; rw [if_pos hx]
    · rw [if_neg (by rw [h j (Nat.le_refl j) (by omega)]; exact nofun)]; exact ih (j + 1) (by omega) (by omega) (fun i h3 h4 => h i (by omega) h4)
theorem fsB_none {P : Nat → Bool} : ∀ k j, (∀ i, j ≤ i → i < j + k → P i = false) → fsB P k j = none := by
  intro k
  induction k with
  | zero => intro j _; rfl
  | succ k ih => intro j h; unfold fsB; rw [if_neg (by rw [h j (Nat.le_refl j) (by omega)]; exact nofun)]; exact ih (j + 1) (fun i h1 h2 => h i (by omega) (by omega))
def ioP (sp : Nat → Option Nat) (M k m : Nat) : Bool := match sp m with
  | none => false
  | some a => decide (ioR sp M a m = k)
def ioOf (sp : Nat → Option Nat) (M k : Nat) : Option Nat := fsB (ioP sp M k) M 0
theorem ioP_f {sp : Nat → Option Nat} {M k m : Nat} (h : ∀ a, sp m = some a → ioR sp M a m ≠ k) : ioP sp M k m = false := by
  unfold ioP
  cases hs : sp m with
  | none => rfl
  | some a => exact decide_eq_false (h a hs)
theorem ioP_y {sp : Nat → Option Nat} {M k m a : Nat} (h : sp m = some a) (e : ioR sp M a m = k) : ioP sp M k m = true := by
  unfold ioP; rw [h]; exact decide_eq_true e
def spO (w : aW) (y m : Nat) : Option Nat := (wPut w y m).map (fun pq => pq.1)
def opInOrder (a : aS) (y k : Int) : Int × aS := if ¬ (0 ≤ y ∧ y < wN (aWd a)) then aNoT a 1 else if k < 0 then (-1, a) else (oI (ioOf (spO (aWd a) y.toNat) (wM (aWd a)) k.toNat), a)
set_option maxHeartbeats 4000000 in
theorem metX4_inOrder {l : Launch} {X : gX} {mo : Nat} {ad : Nat → Nat} {S : mS} {a : aS} (hX : mX S a) (hA : aOK a) {y k : Int} (hr0 : -2147483648 ≤ y ∧ y < 2147483648 ∧ -2147483648 ≤ k ∧ k < 2147483648) : Met l yX4_inOrder (ws_ yX4_inOrder cX4_inOrder 6 (some FieldType.int)) ({ frames := 6, cells := 0, slots := 0, locals := 144 }) (mP X mo ad S [.ref mo, .int (zI y), .int (zI k)]) (mQi X mo ad (fun u T => u = zI (opInOrder a y k).1 ∧ mX T (opInOrder a y k).2)) 0 0 (mA mo ad) := by
  refine Met.m (by decide) (Nat.le_of_ble_eq_true rfl) ?_
  intro p e s m below meth c ls hx hb hr hts hown hlocks hml hG hl
  have hl : lv_has ls 6 [(0, .ref mo), (1, .int (zI y)), (2, .int (zI k))] := hl
  have hNN := hA.w.n
  have hMM := hA.w.m
  refine lv_aload_n hx hb dX4_inOrder_0 rfl (lv_at hl 0 rfl) ?_
  refine lv_iload_n hx hb dX4_inOrder_1 rfl (lv_at hl 1 rfl) ?_
  have hq1 := hX.o.n
  have hQ1 := hA.w.n
  refine m_ci (va_runV (As := [.int (zI y)]) (rest := []) ⟨hx, hb, hml, hown, hts⟩ (metX4_isRevision (by omega) (by omega)) (cwV 1 hts (lw_V q3481 q3483 qs48 q102 q3484) rfl rfl rfl (by decide +kernel) ⟨Nat.le_of_ble_eq_true rfl, Nat.le_of_ble_eq_true rfl⟩) (m_preV hG) rfl rfl hl.1 rfl (lv_room (Nat.le_of_ble_eq_true rfl)) dX4_inOrder_2 ⟨Nat.le_of_ble_eq_true rfl, Nat.le_of_ble_eq_true rfl⟩) hG (fun r_1 S_2 H locs hp hG => ?_)
  obtain ⟨b1, rfl, hb1, rfl⟩ := hp
  have hG : mW X mo ad S s H locs := hG
  refine g_ne (tgt := 14) hx hb dX4_inOrder_5 (by decide) (by omega) (fun h2 => ?_) (fun h2 => ?_)
  · obtain ⟨y1, rfl⟩ : ∃ n9 : Nat, y = n9 := ⟨y.toNat, by omega⟩
    refine lv_iload_n hx hb dX4_inOrder_14 rfl (lv_at hl 2 rfl) ?_
    refine lv_istore_n (lv' := [(3, .int (zI k)), (0, .ref mo), (1, .int (zI (y1 : Int))), (2, .int (zI k))]) hx hb dX4_inOrder_15 rfl hl (by decide) rfl (fun ls hl => ?_)
    refine lv_iconst (v := zI 0) hx hb dX4_inOrder_16 (by decide +kernel) ?_
    refine lv_istore (lv' := [(4, .int (zI 0)), (3, .int (zI k)), (0, .ref mo), (1, .int (zI (y1 : Int))), (2, .int (zI k))]) hx hb dX4_inOrder_17 hl (by decide) rfl (fun ls hl => ?_)
    refine g_loop (fun mz H locs ls => ∃ (x : Nat) (T : mS), (x ≤ wM (aWd a) ∧ mz = wM (aWd a) - x ∧ mReal S T ∧ (∀ i, i < x → T.2.1 37 i = oI (spO (aWd a) y1 i)) ∧ ∀ m q, spO (aWd a) y1 m = some q → m < x → q < 24) ∧ mW X mo ad T s H locs ∧ lv_has ls 6 [(0, .ref mo), (1, .int (zI (y1 : Int))), (2, .int (zI k)), (3, .int (zI k)), (4, .int (zI (x : Int)))]) (wM (aWd a) - 0) ⟨0, S, ⟨by omega, rfl, mReal.rf, fun i hi => by omega, fun m q h1 h2 => by omega⟩, hG, (lv_sub hl [2, 3, 4, 1, 0] rfl)⟩ (fun mz ihX H locs ls hI => ?_)
    obtain ⟨x, T, ⟨hx9, hmz, hre, hsp, hlt⟩, hG, hl⟩ := hI
    refine lv_iload hx hb dX4_inOrder_19 (lv_at hl 4 rfl) ?_
    refine lv_aload_n hx hb dX4_inOrder_21 rfl (lv_at hl 0 rfl) ?_
    refine m_get 5 (by decide) (v := .int (zI (wM (aWd a) : Int))) (congrArg (fun z => Value.int (zI z)) (show T.1 5 = (wM (aWd a) : Int) from (hX.real hre).o.m)) hx hb hts hown hG (hts _ q3301) dX4_inOrder_22 ?_
    refine g_cge (tgt := 59) hx hb dX4_inOrder_25 (by decide) (by omega) (fun h2 => ?_) (fun h2 => ?_)
    · have hxM : x = wM (aWd a) := by omega
      refine lv_iconst (v := zI 0) hx hb dX4_inOrder_59 (by decide +kernel) ?_
      refine lv_istore (lv' := [(4, .int (zI 0)), (0, .ref mo), (1, .int (zI (y1 : Int))), (2, .int (zI k)), (3, .int (zI k))]) hx hb dX4_inOrder_60 hl (by decide) rfl (fun ls hl => ?_)
      by_cases hkn : k < 0
      · refine lv_iload hx hb dX4_inOrder_62 (lv_at hl 0 rfl) ?_
        refine lv_bipush (v := zI 24) hx hb dX4_inOrder_64 (by decide +kernel) ?_
        refine g_cge (tgt := 122) hx hb dX4_inOrder_66 (by decide) (by omega) (fun h8 => ?_) (fun h8 => ?_)
        · exfalso; omega
        · refine lv_iload_n hx hb dX4_inOrder_69 rfl (lv_at hl 3 rfl) ?_
          refine g_lt (tgt := 122) hx hb dX4_inOrder_70 (by decide) (by omega) (fun h9 => ?_) (fun h9 => ?_)
          · refine lv_iconst (v := zI (-1)) hx hb dX4_inOrder_122 (by decide +kernel) ?_
            exact m_iret hx hb hr hlocks hG (mX.cast (by unfold opInOrder; rw [if_neg (by omega), if_pos (by omega)]) (hX.real hre)) ⟨Nat.le_of_ble_eq_true rfl, Nat.le_of_ble_eq_true rfl⟩ dX4_inOrder_123
          · exfalso; omega
      · obtain ⟨k1, rfl⟩ : ∃ n9 : Nat, k = n9 := ⟨k.toNat, by omega⟩
        have hsp24 : ∀ m q, spO (aWd a) y1 m = some q → m < wM (aWd a) → q < 24 := fun m q h1 h2 => hlt m q h1 (by omega)
        have hl : lv_has ls 6 [(4, .int (zI ((0 : Nat) : Int))), (0, .ref mo), (1, .int (zI (y1 : Int))), (2, .int (zI (k1 : Int))), (3, .int (zI ((k1 : Int) - (ioR (spO (aWd a) y1) (wM (aWd a)) 0 0 : Int))))] := by rw [ioR_0]; show lv_has ls 6 _; rw [show (k1 : Int) - ((0 : Nat) : Int) = (k1 : Int) from Int.sub_zero _]; exact hl
        refine g_loop (fun mz H locs ls => ∃ (at_ : Nat), (at_ ≤ 24 ∧ mz = 24 - at_ ∧ ioR (spO (aWd a) y1) (wM (aWd a)) at_ 0 ≤ k1 ∧ ∀ m q, m < wM (aWd a) → (spO (aWd a) y1) m = some q → (q < at_ ∨ (q = at_ ∧ m < 0)) → ioR (spO (aWd a) y1) (wM (aWd a)) q m ≠ k1) ∧ mW X mo ad T s H locs ∧ lv_has ls 6 [(0, .ref mo), (1, .int (zI (y1 : Int))), (2, .int (zI (k1 : Int))), (3, .int (zI ((k1 : Int) - (ioR (spO (aWd a) y1) (wM (aWd a)) at_ 0 : Int)))), (4, .int (zI (at_ : Int)))]) (24 - 0) ⟨0, ⟨by omega, rfl, by rw [ioR_0]; omega, fun m q h0 h1 h2 => by omega⟩, hG, (lv_sub hl [1, 2, 3, 4, 0] rfl)⟩ (fun mz ihA H locs ls hI => ?_)
        obtain ⟨at_, ⟨hat, hmz, hle1, hvis⟩, hG, hl⟩ := hI
        refine lv_iload hx hb dX4_inOrder_62 (lv_at hl 4 rfl) ?_
        refine lv_bipush (v := zI 24) hx hb dX4_inOrder_64 (by decide +kernel) ?_
        refine g_cge (tgt := 122) hx hb dX4_inOrder_66 (by decide) (by omega) (fun h8 => ?_) (fun h8 => ?_)
        · refine lv_iconst (v := zI (-1)) hx hb dX4_inOrder_122 (by decide +kernel) ?_
          exact m_iret hx hb hr hlocks hG (mX.cast (by unfold opInOrder; rw [if_neg (by omega), if_neg (by omega)]; simp only [Int.toNat_natCast]; rw [show ioOf (spO (aWd a) y1) (wM (aWd a)) k1 = none from fsB_none _ _ (fun i _ hi => ioP_f (fun q hq => hvis i q (by omega) hq (by have := hsp24 i q hq (by omega); omega)))]; rfl) (hX.real hre)) ⟨Nat.le_of_ble_eq_true rfl, Nat.le_of_ble_eq_true rfl⟩ dX4_inOrder_123
        · refine lv_iload_n hx hb dX4_inOrder_69 rfl (lv_at hl 2 rfl) ?_
          refine g_lt (tgt := 122) hx hb dX4_inOrder_70 (by decide) (by omega) (fun h9 => ?_) (fun h9 => ?_)
          · exfalso; omega
          · refine lv_iconst (v := zI 0) hx hb dX4_inOrder_73 (by decide +kernel) ?_
            refine lv_istore (lv' := [(5, .int (zI 0)), (0, .ref mo), (1, .int (zI (y1 : Int))), (2, .int (zI (k1 : Int))), (3, .int (zI ((k1 : Int) - (ioR (spO (aWd a) y1) (wM (aWd a)) at_ 0 : Int)))), (4, .int (zI (at_ : Int)))]) hx hb dX4_inOrder_74 hl (by decide) rfl (fun ls hl => ?_)
            have hl : lv_has ls 6 [(5, .int (zI ((0 : Nat) : Int))), (0, .ref mo), (1, .int (zI (y1 : Int))), (2, .int (zI (k1 : Int))), (3, .int (zI ((k1 : Int) - (ioR (spO (aWd a) y1) (wM (aWd a)) at_ 0 : Int)))), (4, .int (zI (at_ : Int)))] := by exact hl
            refine g_loop (fun mz H locs ls => ∃ (z : Nat), (z ≤ wM (aWd a) ∧ mz = wM (aWd a) - z ∧ ioR (spO (aWd a) y1) (wM (aWd a)) at_ z ≤ k1 ∧ ∀ m q, m < wM (aWd a) → (spO (aWd a) y1) m = some q → (q < at_ ∨ (q = at_ ∧ m < z)) → ioR (spO (aWd a) y1) (wM (aWd a)) q m ≠ k1) ∧ mW X mo ad T s H locs ∧ lv_has ls 6 [(0, .ref mo), (1, .int (zI (y1 : Int))), (2, .int (zI (k1 : Int))), (3, .int (zI ((k1 : Int) - (ioR (spO (aWd a) y1) (wM (aWd a)) at_ z : Int)))), (4, .int (zI (at_ : Int))), (5, .int (zI (z : Int)))]) (wM (aWd a) - 0) ⟨0, ⟨by omega, rfl, hle1, hvis⟩, hG, (lv_sub hl [1, 2, 3, 4, 5, 0] rfl)⟩ (fun mz ihB H locs ls hI => ?_)
            obtain ⟨z, ⟨hz9, hmz2, hle2, hvis2⟩, hG, hl⟩ := hI
            refine lv_iload hx hb dX4_inOrder_76 (lv_at hl 5 rfl) ?_
            refine lv_aload_n hx hb dX4_inOrder_78 rfl (lv_at hl 0 rfl) ?_
            refine m_get 5 (by decide) (v := .int (zI (wM (aWd a) : Int))) (congrArg (fun z => Value.int (zI z)) (show T.1 5 = (wM (aWd a) : Int) from (hX.real hre).o.m)) hx hb hts hown hG (hts _ q3301) dX4_inOrder_79 ?_
            refine g_cge (tgt := 116) hx hb dX4_inOrder_82 (by decide) (by omega) (fun h3 => ?_) (fun h3 => ?_)
            · have hzM : z = wM (aWd a) := by omega
              subst hzM
              refine lv_iinc (v := zI ((at_ : Int) + 1 : Int)) (lv' := [(4, .int (zI ((at_ : Int) + 1 : Int))), (0, .ref mo), (1, .int (zI (y1 : Int))), (2, .int (zI (k1 : Int))), (3, .int (zI ((k1 : Int) - (ioR (spO (aWd a) y1) (wM (aWd a)) at_ (wM (aWd a)) : Int)))), (5, .int (zI ((wM (aWd a)) : Int)))]) hx hb dX4_inOrder_116 hl (k := 4) rfl ((zI_add _ _).trans (congrArg zI (by omega))) (by decide) rfl (fun ls hl => ?_)
              have hl : lv_has ls 6 [(4, .int (zI ((at_ + 1 : Nat) : Int))), (0, .ref mo), (1, .int (zI (y1 : Int))), (2, .int (zI (k1 : Int))), (3, .int (zI ((k1 : Int) - (ioR (spO (aWd a) y1) (wM (aWd a)) (at_ + 1) 0 : Int)))), (5, .int (zI ((wM (aWd a)) : Int)))] := by rw [ioR_row]; exact hl
              refine lv_goto (tgt := 62) hx hb dX4_inOrder_119 (by decide) ?_
              exact ihA (24 - (at_ + 1)) (by omega) H locs ls ⟨(at_ + 1), ⟨by omega, rfl, by rw [ioR_row]; exact hle2, fun m q h0 h1 h2 => hvis2 m q h0 h1 (by omega)⟩, hG, (lv_sub hl [1, 2, 3, 4, 0] rfl)⟩
            · refine lv_aload_n hx hb dX4_inOrder_85 rfl (lv_at hl 0 rfl) ?_
              refine m_get 37 (by decide) (v := .ref (ad 37)) rfl hx hb hts hown hG (hts _ q3333) dX4_inOrder_86 ?_
              refine lv_iload hx hb dX4_inOrder_89 (lv_at hl 5 rfl) ?_
              refine m_iald 37 rfl rfl (by decide) z (v := (oI (spO (aWd a) y1 z))) ⟨by omega, by show _ < 16; omega⟩ (show T.2.1 37 z = (oI (spO (aWd a) y1 z)) from (hsp z (by omega))) hx hb hG dX4_inOrder_91 ?_
              refine lv_iload hx hb dX4_inOrder_92 (lv_at hl 4 rfl) ?_
              refine g_ceq (tgt := 100) hx hb dX4_inOrder_94 (by decide) (by have q := oI_R (spO (aWd a) y1 z) (fun x hx => by have := hsp24 z x hx (by omega); omega); omega) (fun h4 => ?_) (fun h4 => ?_)
              · have hz : spO (aWd a) y1 z = some at_ := oI_n.mp h4
                have hy := ioR_y hz (M := wM (aWd a)) (by omega)
                refine lv_iload_n hx hb dX4_inOrder_100 rfl (lv_at hl 3 rfl) ?_
                refine g_ne (tgt := 107) hx hb dX4_inOrder_101 (by decide) (by omega) (fun h5 => ?_) (fun h5 => ?_)
                · refine lv_iinc (v := zI (((k1 : Int) - (ioR (spO (aWd a) y1) (wM (aWd a)) at_ z : Int)) - 1 : Int)) (lv' := [(3, .int (zI (((k1 : Int) - (ioR (spO (aWd a) y1) (wM (aWd a)) at_ z : Int)) - 1 : Int))), (0, .ref mo), (1, .int (zI (y1 : Int))), (2, .int (zI (k1 : Int))), (4, .int (zI (at_ : Int))), (5, .int (zI (z : Int)))]) hx hb dX4_inOrder_107 hl (k := 3) rfl ((zI_add _ _).trans (congrArg zI (by omega))) (by decide) rfl (fun ls hl => ?_)
                  refine lv_iinc (v := zI ((z : Int) + 1 : Int)) (lv' := [(5, .int (zI ((z : Int) + 1 : Int))), (3, .int (zI (((k1 : Int) - (ioR (spO (aWd a) y1) (wM (aWd a)) at_ z : Int)) - 1 : Int))), (0, .ref mo), (1, .int (zI (y1 : Int))), (2, .int (zI (k1 : Int))), (4, .int (zI (at_ : Int)))]) hx hb dX4_inOrder_110 hl (k := 5) rfl ((zI_add _ _).trans (congrArg zI (by omega))) (by decide) rfl (fun ls hl => ?_)
                  have hl : lv_has ls 6 [(5, .int (zI ((z + 1 : Nat) : Int))), (3, .int (zI ((k1 : Int) - (ioR (spO (aWd a) y1) (wM (aWd a)) at_ (z + 1) : Int)))), (0, .ref mo), (1, .int (zI (y1 : Int))), (2, .int (zI (k1 : Int))), (4, .int (zI (at_ : Int)))] := by rw [hy, show (k1 : Int) - ((ioR (spO (aWd a) y1) (wM (aWd a)) at_ z + 1 : Nat) : Int) = (k1 : Int) - (ioR (spO (aWd a) y1) (wM (aWd a)) at_ z : Int) - 1 by omega]; exact hl
                  refine lv_goto (tgt := 76) hx hb dX4_inOrder_113 (by decide) ?_
                  exact ihB (wM (aWd a) - (z + 1)) (by omega) H locs ls ⟨(z + 1), ⟨by omega, rfl, by omega, fun m q h0 h1 h2 => by by_cases hmz : m = z ∧ q = at_; (obtain ⟨e1, e2⟩ := hmz; subst e1; subst e2; omega); exact hvis2 m q h0 h1 (by by_cases e : m = z; (subst e; rw [hz] at h1; cases h1; omega); omega)⟩, hG, (lv_sub hl [2, 3, 4, 1, 5, 0] rfl)⟩
                · refine lv_iload hx hb dX4_inOrder_104 (lv_at hl 5 rfl) ?_
                  exact m_iret hx hb hr hlocks hG (mX.cast (by unfold opInOrder; rw [if_neg (by omega), if_neg (by omega)]; simp only [Int.toNat_natCast]; rw [show ioOf (spO (aWd a) y1) (wM (aWd a)) k1 = some z from fsB_some (ioP_y hz (by omega)) _ _ (by omega) (by omega) (fun i _ hi => ioP_f (fun q hq => by by_cases hv : q < at_ ∨ (q = at_ ∧ i < z); (exact hvis2 i q (by omega) hq hv); have := ioR_le (sp := (spO (aWd a) y1)) (M := (wM (aWd a))) (a := at_) (m := z + 1) (b := q) (n := i) (by omega); omega))]; rfl) (hX.real hre)) ⟨Nat.le_of_ble_eq_true rfl, Nat.le_of_ble_eq_true rfl⟩ dX4_inOrder_106
              · have hz : spO (aWd a) y1 z ≠ some at_ := fun q => h4 (by rw [q]; rfl)
                have hy := ioR_n hz (M := wM (aWd a))
                refine lv_goto (tgt := 110) hx hb dX4_inOrder_97 (by decide) ?_
                refine lv_iinc (v := zI ((z : Int) + 1 : Int)) (lv' := [(5, .int (zI ((z : Int) + 1 : Int))), (0, .ref mo), (1, .int (zI (y1 : Int))), (2, .int (zI (k1 : Int))), (3, .int (zI ((k1 : Int) - (ioR (spO (aWd a) y1) (wM (aWd a)) at_ z : Int)))), (4, .int (zI (at_ : Int)))]) hx hb dX4_inOrder_110 hl (k := 5) rfl ((zI_add _ _).trans (congrArg zI (by omega))) (by decide) rfl (fun ls hl => ?_)
                have hl : lv_has ls 6 [(5, .int (zI ((z + 1 : Nat) : Int))), (0, .ref mo), (1, .int (zI (y1 : Int))), (2, .int (zI (k1 : Int))), (3, .int (zI ((k1 : Int) - (ioR (spO (aWd a) y1) (wM (aWd a)) at_ (z + 1) : Int)))), (4, .int (zI (at_ : Int)))] := by rw [hy]; exact hl
                refine lv_goto (tgt := 76) hx hb dX4_inOrder_113 (by decide) ?_
                exact ihB (wM (aWd a) - (z + 1)) (by omega) H locs ls ⟨(z + 1), ⟨by omega, rfl, by rw [hy]; exact hle2, fun m q h0 h1 h2 => hvis2 m q h0 h1 (by by_cases e : m = z; (subst e; have : q ≠ at_ := fun e => hz (by rw [h1, e]); omega); omega)⟩, hG, (lv_sub hl [1, 2, 3, 4, 5, 0] rfl)⟩
    · refine lv_aload_n hx hb dX4_inOrder_28 rfl (lv_at hl 0 rfl) ?_
      refine m_get 37 (by decide) (v := .ref (ad 37)) rfl hx hb hts hown hG (hts _ q3333) dX4_inOrder_29 ?_
      refine lv_iload hx hb dX4_inOrder_32 (lv_at hl 4 rfl) ?_
      refine lv_aload_n hx hb dX4_inOrder_34 rfl (lv_at hl 0 rfl) ?_
      refine lv_iload hx hb dX4_inOrder_35 (lv_at hl 4 rfl) ?_
      refine lv_iload_n hx hb dX4_inOrder_37 rfl (lv_at hl 1 rfl) ?_
      refine m_ci (va_runV (As := [.int (zI (x : Int)), .int (zI (y1 : Int))]) (rest := [.int (zI (x : Int)), .ref (ad 37)]) ⟨hx, hb, hml, hown, hts⟩ (metX4_isPut (x := x) (y := y1) (hX.real hre).o hA.w (by omega) (by omega)) (cwV 2 hts (lw_V q3660 q3662 qs75 q102 q3663) rfl rfl rfl (by decide +kernel) ⟨Nat.le_of_ble_eq_true rfl, Nat.le_of_ble_eq_true rfl⟩) (m_preV hG) rfl rfl hl.1 rfl (lv_room (Nat.le_of_ble_eq_true rfl)) dX4_inOrder_38 ⟨Nat.le_of_ble_eq_true rfl, Nat.le_of_ble_eq_true rfl⟩) hG (fun r_3 S_4 H locs hp hG => ?_)
      obtain ⟨b1, rfl, hb1, hre1, hpl1⟩ := hp
      have hG : mW X mo ad S_4 s H locs := hG
      have hre2 := hre.tr hre1
      have hsp2 : ∀ i, i < x → S_4.2.1 37 i = oI (spO (aWd a) y1 i) := fun i hi => (congrFun (hpl1 37 (by decide)) i).trans (hsp i hi)
      rcases hb1 with ⟨rfl, pq, hpw, hp1, hp2, hp3, hp4⟩ | ⟨rfl, hpw⟩
      · refine g_eq (tgt := 51) hx hb dX4_inOrder_41 (by decide) (by decide) (fun h3 => ?_) (fun h3 => ?_)
        · exfalso; omega
        · refine lv_aload_n hx hb dX4_inOrder_44 rfl (lv_at hl 0 rfl) ?_
          refine m_get 31 (by decide) (v := .int (zI (pq.1 : Int))) (congrArg (fun z => Value.int (zI z)) (show S_4.1 31 = (pq.1 : Int) from hp1)) hx hb hts hown hG (hts _ q3327) dX4_inOrder_45 ?_
          refine lv_goto (tgt := 52) hx hb dX4_inOrder_48 (by decide) ?_
          refine m_iast 37 rfl rfl (by decide) x ⟨by omega, by show _ < 16; omega⟩ hx hb hG dX4_inOrder_52 (fun H locs (hG : mW X mo ad (sA S_4 37 x (pq.1 : Int)) s H locs) => ?_)
          refine lv_iinc (v := zI ((x : Int) + 1 : Int)) (lv' := [(4, .int (zI ((x : Int) + 1 : Int))), (0, .ref mo), (1, .int (zI (y1 : Int))), (2, .int (zI k)), (3, .int (zI k))]) hx hb dX4_inOrder_53 hl (k := 4) rfl ((zI_add _ _).trans (congrArg zI (by omega))) (by decide) rfl (fun ls hl => ?_)
          refine lv_goto (tgt := 19) hx hb dX4_inOrder_56 (by decide) ?_
          exact ihX (wM (aWd a) - (x + 1)) (by omega) H locs ls ⟨(x + 1), (sA S_4 37 x (pq.1 : Int)), ⟨by omega, rfl, hre2.A (by decide) _ _, (fun i hi => by by_cases hix : i = x; (subst hix; rw [sA_s]; unfold spO; rw [hpw]; rfl); rw [sA_n hix]; exact hsp2 i (by omega)), fun m q h1 h2 => by by_cases hmx : m = x; (subst hmx; unfold spO at h1; rw [hpw] at h1; (have h1 : some pq.1 = some q := h1); cases h1; omega); exact hlt m q h1 (by omega)⟩, hG, (lv_sub hl [1, 2, 3, 4, 0] rfl)⟩
      · refine g_eq (tgt := 51) hx hb dX4_inOrder_41 (by decide) (by decide) (fun h3 => ?_) (fun h3 => ?_)
        · refine lv_iconst (v := zI (-1)) hx hb dX4_inOrder_51 (by decide +kernel) ?_
          refine m_iast 37 rfl rfl (by decide) x ⟨by omega, by show _ < 16; omega⟩ hx hb hG dX4_inOrder_52 (fun H locs (hG : mW X mo ad (sA S_4 37 x (-1)) s H locs) => ?_)
          refine lv_iinc (v := zI ((x : Int) + 1 : Int)) (lv' := [(4, .int (zI ((x : Int) + 1 : Int))), (0, .ref mo), (1, .int (zI (y1 : Int))), (2, .int (zI k)), (3, .int (zI k))]) hx hb dX4_inOrder_53 hl (k := 4) rfl ((zI_add _ _).trans (congrArg zI (by omega))) (by decide) rfl (fun ls hl => ?_)
          refine lv_goto (tgt := 19) hx hb dX4_inOrder_56 (by decide) ?_
          exact ihX (wM (aWd a) - (x + 1)) (by omega) H locs ls ⟨(x + 1), (sA S_4 37 x (-1)), ⟨by omega, rfl, hre2.A (by decide) _ _, (fun i hi => by by_cases hix : i = x; (subst hix; rw [sA_s]; unfold spO; rw [hpw]; rfl); rw [sA_n hix]; exact hsp2 i (by omega)), fun m q h1 h2 => by by_cases hmx : m = x; (subst hmx; unfold spO at h1; rw [hpw] at h1; cases h1); exact hlt m q h1 (by omega)⟩, hG, (lv_sub hl [1, 2, 3, 4, 0] rfl)⟩
        · exfalso; omega
  · refine lv_aload_n hx hb dX4_inOrder_8 rfl (lv_at hl 0 rfl) ?_
    refine lv_iconst (v := zI (-1)) hx hb dX4_inOrder_9 (by decide +kernel) ?_
    refine g_topz (y := -((1 : Nat) : Int)) (by decide) ?_
    refine m_ci (va_runV (As := [.int (zI (-((1 : Nat) : Int)))]) (rest := []) ⟨hx, hb, hml, hown, hts⟩ (metX4_no10 1 (by decide)) (cwV 1 hts (lw_V q3543 q3545 qs59 q102 q3546) rfl rfl rfl (by decide +kernel) ⟨Nat.le_of_ble_eq_true rfl, Nat.le_of_ble_eq_true rfl⟩) (m_preV hG) rfl rfl hl.1 rfl (lv_room (Nat.le_of_ble_eq_true rfl)) dX4_inOrder_10 ⟨Nat.le_of_ble_eq_true rfl, Nat.le_of_ble_eq_true rfl⟩) hG (fun r_5 S_6 H locs hp hG => ?_)
    obtain ⟨rfl, rfl⟩ := hp
    have hG : mW X mo ad (mNo S 1) s H locs := hG
    exact m_iret hx hb hr hlocks hG (by first | (exfalso; omega) | exact (hX.noT 1 (by unfold opInOrder; all_goals ((repeat (first | rw [if_pos (by omega)] | rw [if_neg (by omega)])) <;> rfl)))) ⟨Nat.le_of_ble_eq_true rfl, Nat.le_of_ble_eq_true rfl⟩ dX4_inOrder_13

