set_option maxRecDepth 100000
theorem and_split (s : Nat) {p m : Nat} (q k : Nat) (hp : p < 2 ^ s) (hm : m < 2 ^ s) : (2 ^ s * q + p) &&& (2 ^ s * k + m) = 2 ^ s * (q &&& k) + (p &&& m) := by
  refine Nat.eq_of_testBit_eq fun i => ?_
  rw [Nat.testBit_and, Nat.testBit_two_pow_mul_add _ hp, Nat.testBit_two_pow_mul_add _ hm, Nat.testBit_two_pow_mul_add _ (Nat.and_lt_two_pow _ hm)]
  by_cases h : i < s
  · rw [if_pos h, if_pos h, if_pos h, Nat.testBit_and]
  · rw [if_neg h, if_neg h, if_neg h, Nat.testBit_and]
def sA1 (m x : Nat) : Nat := x - (x / 2 &&& m)
def sB1 (m x : Nat) : Nat := (x &&& m) + (x / 4 &&& m)
def sC1 (m x : Nat) : Nat := (x + x / 16) &&& m
theorem sA1_S {u : Nat} (v k : Nat) (hu : u < 256) : sA1 (256 * k + 85) (256 * v + u) = 256 * sA1 k v + sA1 85 u := by
  have h1 := and_split 8 (p := 128 * (v % 2) + u / 2) (m := 85) (v / 2) k (by omega) (by decide)
  have h2 := and_split 7 (p := u / 2) (m := 85) (v % 2) 0 (by omega) (by decide)
  rw [Nat.and_zero] at h2
  have h3 : v / 2 &&& k ≤ v / 2 := Nat.and_le_left
  have h4 : u / 2 &&& 85 ≤ u / 2 := Nat.and_le_left
  unfold sA1
  rw [show (256 * v + u) / 2 = 2 ^ 8 * (v / 2) + (128 * (v % 2) + u / 2) by omega, show 256 * k + 85 = 2 ^ 8 * k + 85 from rfl, h1, show (128 * (v % 2) + u / 2) &&& 85 = u / 2 &&& 85 from by
    have : (2 ^ 7 * (v % 2) + u / 2) &&& (2 ^ 7 * 0 + 85) = _ := h2
    rw [show (2 : Nat) ^ 7 * 0 + 85 = 85 from rfl] at this
    rw [show 128 * (v % 2) = 2 ^ 7 * (v % 2) from rfl, this]; omega]
  omega
theorem sB1_S {u : Nat} (v k : Nat) (hu : u < 256) : sB1 (256 * k + 51) (256 * v + u) = 256 * sB1 k v + sB1 51 u := by
  have h0 := and_split 8 (p := u) (m := 51) v k (by omega) (by decide)
  have h1 := and_split 8 (p := 64 * (v % 4) + u / 4) (m := 51) (v / 4) k (by omega) (by decide)
  have h2 := and_split 6 (p := u / 4) (m := 51) (v % 4) 0 (by omega) (by decide)
  rw [Nat.and_zero] at h2
  unfold sB1
  rw [show (256 * v + u) / 4 = 2 ^ 8 * (v / 4) + (64 * (v % 4) + u / 4) by omega, show 256 * k + 51 = 2 ^ 8 * k + 51 from rfl, h1, show 256 * v + u = 2 ^ 8 * v + u from rfl, h0, show (64 * (v % 4) + u / 4) &&& 51 = u / 4 &&& 51 from by
    have : (2 ^ 6 * (v % 4) + u / 4) &&& (2 ^ 6 * 0 + 51) = _ := h2
    rw [show (2 : Nat) ^ 6 * 0 + 51 = 51 from rfl] at this
    rw [show 64 * (v % 4) = 2 ^ 6 * (v % 4) from rfl, this]; omega]
  omega
theorem sC1_S {u : Nat} (v k : Nat) (hu : u ≤ 68) (hv : v % 16 ≤ 4) : sC1 (256 * k + 15) (256 * v + u) = 256 * sC1 k v + sC1 15 u := by
  have h1 := and_split 8 (p := u + u / 16 + 16 * (v % 16)) (m := 15) (v + v / 16) k (by omega) (by decide)
  have h2 := and_split 4 (p := (u + u / 16) % 16) (m := 15) ((u + u / 16) / 16 + v % 16) 0 (by omega) (by decide)
  have h3 := and_split 4 (p := (u + u / 16) % 16) (m := 15) ((u + u / 16) / 16) 0 (by omega) (by decide)
  rw [Nat.and_zero] at h2 h3
  unfold sC1
  rw [show 256 * v + u + (256 * v + u) / 16 = 2 ^ 8 * (v + v / 16) + (u + u / 16 + 16 * (v % 16)) by omega, show 256 * k + 15 = 2 ^ 8 * k + 15 from rfl, h1]
  rw [show u + u / 16 + 16 * (v % 16) = 2 ^ 4 * ((u + u / 16) / 16 + v % 16) + (u + u / 16) % 16 by omega]
  have e3 : (u + u / 16) &&& 15 = (u + u / 16) % 16 &&& 15 := by
    rw [show (2 : Nat) ^ 4 * 0 + 15 = 15 from rfl] at h3
    have e : 2 ^ 4 * ((u + u / 16) / 16) + (u + u / 16) % 16 = u + u / 16 := by omega
    rw [e] at h3; rw [h3]; omega
  rw [show (2 : Nat) ^ 4 * 0 + 15 = 15 from rfl] at h2
  rw [h2, e3]; omega
def bc (x : Nat) : Nat → Nat
  | 0 => 0
  | n + 1 => bc x n + (if x.testBit n = true then 1 else 0)
theorem bc_le (x : Nat) : ∀ n, bc x n ≤ n := by
  intro n
  induction n with
  | zero => exact Nat.le_refl _
  | succ n ih => unfold bc; split <;> omega
theorem bc_cg {x y : Nat} : ∀ {n}, (∀ i, i < n → x.testBit i = y.testBit i) → bc x n = bc y n := by
  intro n
  induction n with
  | zero => intro _; rfl
  | succ n ih => intro h; unfold bc; rw [ih (fun i hi => h i (by omega)), h n (by omega)]
theorem bc_S {u : Nat} (v : Nat) (hu : u < 256) : ∀ n, bc (256 * v + u) (8 + n) = bc u 8 + bc v n := by
  intro n
  induction n with
  | zero =>
    refine bc_cg fun i hi => ?_
    rw [show 256 * v + u = 2 ^ 8 * v + u from rfl, Nat.testBit_two_pow_mul_add _ (by omega), if_pos hi]
  | succ n ih =>
    have e : (256 * v + u).testBit (8 + n) = v.testBit n := by
      rw [show 256 * v + u = 2 ^ 8 * v + u from rfl, Nat.testBit_two_pow_mul_add v (show u < 2 ^ 8 from hu) (8 + n), if_neg (by omega), show 8 + n - 8 = n by omega]
    show bc (256 * v + u) (8 + n) + (if (256 * v + u).testBit (8 + n) = true then 1 else 0) = bc u 8 + (bc v n + (if v.testBit n = true then 1 else 0))
    rw [ih, e]; omega
theorem bc_tab : ∀ u, u < 256 → sA1 85 u < 256 ∧ sB1 51 (sA1 85 u) ≤ 68 ∧ sB1 51 (sA1 85 u) % 16 ≤ 4 ∧ sC1 15 (sB1 51 (sA1 85 u)) = bc u 8 := by decide +kernel
theorem bc_hi {x n : Nat} (h : x < 2 ^ n) : ∀ k, bc x (n + k) = bc x n := by
  intro k
  induction k with
  | zero => rfl
  | succ k ih => rw [show n + (k + 1) = (n + k) + 1 from rfl, bc, ih, if_neg (by rw [Nat.testBit_lt_two_pow (Nat.lt_of_lt_of_le h (Nat.pow_le_pow_right (by decide) (by omega)))]; exact nofun), Nat.add_zero]
/-- the stages of the count, of four bytes -/
def bcC (x : Nat) : Nat := sC1 1085102592571150095 (sB1 3689348814741910323 (sA1 6148914691236517205 x))
theorem bcC_4 {a b g d : Nat} (ha : a < 256) (hb : b < 256) (hg : g < 256) (hd : d < 256) : bcC (256 * (256 * (256 * d + g) + b) + a) = 256 * (256 * (256 * bc d 8 + bc g 8) + bc b 8) + bc a 8 := by
  obtain ⟨a1, a2, a3, a4⟩ := bc_tab a ha
  obtain ⟨b1, b2, b3, b4⟩ := bc_tab b hb
  obtain ⟨g1, g2, g3, g4⟩ := bc_tab g hg
  obtain ⟨d1, d2, d3, d4⟩ := bc_tab d hd
  have z1 : ∀ m, sA1 m 0 = 0 := fun m => by unfold sA1; rw [Nat.zero_sub]
  have z2 : ∀ m, sB1 m 0 = 0 := fun m => by unfold sB1; simp
  have z3 : ∀ m, sC1 m 0 = 0 := fun m => by unfold sC1; rw [Nat.zero_div, Nat.zero_and]
  have ea : sA1 6148914691236517205 (256 * (256 * (256 * d + g) + b) + a) = 256 * (256 * (256 * sA1 85 d + sA1 85 g) + sA1 85 b) + sA1 85 a := by
    rw [show (6148914691236517205 : Nat) = 256 * (256 * (256 * (256 * 1431655765 + 85) + 85) + 85) + 85 from rfl, sA1_S _ _ ha, sA1_S _ _ hb, sA1_S _ _ hg]
    have := sA1_S 0 1431655765 hd
    rw [z1, Nat.mul_zero, Nat.zero_add, Nat.zero_add] at this
    rw [this]
  have eb : sB1 3689348814741910323 (256 * (256 * (256 * sA1 85 d + sA1 85 g) + sA1 85 b) + sA1 85 a) = 256 * (256 * (256 * sB1 51 (sA1 85 d) + sB1 51 (sA1 85 g)) + sB1 51 (sA1 85 b)) + sB1 51 (sA1 85 a) := by
    rw [show (3689348814741910323 : Nat) = 256 * (256 * (256 * (256 * 858993459 + 51) + 51) + 51) + 51 from rfl, sB1_S _ _ a1, sB1_S _ _ b1, sB1_S _ _ g1]
    have := sB1_S 0 858993459 d1
    rw [z2, Nat.mul_zero, Nat.zero_add, Nat.zero_add] at this
    rw [this]
  unfold bcC
  rw [ea, eb, show (1085102592571150095 : Nat) = 256 * (256 * (256 * (256 * 252645135 + 15) + 15) + 15) + 15 from rfl, sC1_S _ _ a2 (by omega), sC1_S _ _ b2 (by omega), sC1_S _ _ g2 (by omega)]
  have := sC1_S 0 252645135 d2 (by decide)
  rw [z3, Nat.mul_zero, Nat.zero_add, Nat.zero_add] at this
  rw [this, a4, b4, g4, d4]
def bcE (z : Nat) : Nat := (z + z / 256) + (z + z / 256) / 65536
theorem bc_all {x : Nat} (h : x < 4294967296) : bcC x < 4294967296 ∧ bcE (bcC x) < 4294967296 ∧ bcE (bcC x) % 128 = bc x 32 := by
  have h1 := bcC_4 (a := x % 256) (b := x / 256 % 256) (g := x / 65536 % 256) (d := x / 16777216) (by omega) (by omega) (by omega) (by omega)
  have e : 256 * (256 * (256 * (x / 16777216) + x / 65536 % 256) + x / 256 % 256) + x % 256 = x := by omega
  rw [e] at h1
  have s1 := bc_S (256 * (256 * (x / 16777216) + x / 65536 % 256) + x / 256 % 256) (u := x % 256) (by omega) 24
  have s2 := bc_S (256 * (x / 16777216) + x / 65536 % 256) (u := x / 256 % 256) (by omega) 16
  have s3 := bc_S (x / 16777216) (u := x / 65536 % 256) (by omega) 8
  rw [e] at s1
  rw [show 8 + 16 = 24 from rfl] at s2
  rw [show 8 + 8 = 16 from rfl] at s3
  rw [show 8 + 24 = 32 from rfl] at s1
  have q1 := bc_le (x % 256) 8
  have q2 := bc_le (x / 256 % 256) 8
  have q3 := bc_le (x / 65536 % 256) 8
  have q4 := bc_le (x / 16777216) 8
  unfold bcE
  rw [h1]
  generalize bc (x % 256) 8 = p0 at *
  generalize bc (x / 256 % 256) 8 = p1 at *
  generalize bc (x / 65536 % 256) 8 = p2 at *
  generalize bc (x / 16777216) 8 = p3 at *
  rw [s1, s2, s3]
  have r1 : (256 * (256 * (256 * p3 + p2) + p1) + p0) / 256 = 256 * (256 * p3 + p2) + p1 := by omega
  rw [r1]
  have r2 : (256 * (256 * (256 * p3 + p2) + p1) + p0 + (256 * (256 * p3 + p2) + p1)) / 65536 = 256 * p3 + (p2 + p3) := by omega
  rw [r2]
  omega
theorem zL_lN (n : Nat) : zL (n : Int) = lN n := Int64.ofInt_eq_ofNat
section G8
variable {p : Program} {l : Launch} {e : Env} {R : Room} {s : State} {m : MethodId} {args : Array Value} {below : List Frame} {meth : Method} {c : Code} {H : Heap} {locs : List Loc} {cells slots : Nat} {Q : State → Prop}
variable {cc : ByteArray} {pc : Nat} {ls : Array Slot} {rest : List Value}
theorem g_topl {x : Int64} (y : Int64) (h : x = y) (k : W p l e R s m args below meth c H locs cells slots Q (F0 m pc ls (.long y :: rest))) : W p l e R s m args below meth c H locs cells slots Q (F0 m pc ls (.long x :: rest)) := h ▸ k
end G8
set_option maxHeartbeats 4000000 in
theorem metJ38_bitCount {l : Launch} {X : gX} {F : gF} {V : gV} {Z : va_W} {x : Nat} (hx9 : x < 4294967296) : Met l yJ38_bitCount (ws_ yJ38_bitCount cJ38_bitCount 2 (some FieldType.int)) ({ frames := 0, cells := 0, slots := 0, locals := 0 }) (gP X F V (Z) [.long (lN x)]) (gQi X (fun u G U ws => u = zI ((bc x 32 : Nat) : Int) ∧ F = G ∧ V = U ∧ Z = ws)) 0 0 (gA X) := by
  refine Met.g (by decide) (Nat.le_of_ble_eq_true rfl) ?_
  intro p e s m below meth c ls hx hb hr hts hown hlocks hml hin hG hl
  have hl : lv_has ls 2 [(0, .long (lN x))] := hl
  have hx64 : x < 2 ^ 64 := by omega
  refine lv_lload_n hx hb dJ38_bitCount_0 rfl (lv_at hl 0 rfl) ?_
  refine lv_lload_n hx hb dJ38_bitCount_1 rfl (lv_at hl 0 rfl) ?_
  refine lv_iconst (v := zI 1) hx hb dJ38_bitCount_2 (by decide +kernel) ?_
  refine lv_lushr (v := ((lN x).toUInt64 >>> ((zI 1).toInt64.toUInt64 &&& Int64.toUInt64 63)).toInt64) hx hb dJ38_bitCount_3 rfl ?_
  refine g_topl (lN (x / 2 ^ 1)) (by rw [show zI 1 = nI 1 from by decide +kernel]; exact wb_shr hx64 (by decide)) ?_
  refine lv_ldc2 (v := 6148914691236517205) hx hb hown (hts _ q1877) dJ38_bitCount_4 ?_
  refine lv_land hx hb dJ38_bitCount_7 ?_
  have hle : x / 2 ^ 1 &&& 6148914691236517205 ≤ x := Nat.le_trans Nat.and_le_left (Nat.div_le_self _ _)
  refine g_topl (lN (x / 2 ^ 1 &&& 6148914691236517205)) (show _ &&& lN 6148914691236517205 = _ from wb_and (by omega) (by decide)) ?_
  refine lv_lsub hx hb dJ38_bitCount_8 ?_
  refine g_topl (lN (sA1 6148914691236517205 x)) (lN_sub hle) ?_
  have hA64 : (sA1 6148914691236517205 x) < 2 ^ 64 := by unfold sA1; omega
  refine lv_lstore_n (lv' := [(0, .long (lN (sA1 6148914691236517205 x)))]) hx hb dJ38_bitCount_9 rfl hl (by decide) rfl (fun ls hl => ?_)
  refine lv_lload_n hx hb dJ38_bitCount_10 rfl (lv_at hl 0 rfl) ?_
  refine lv_ldc2 (v := 3689348814741910323) hx hb hown (hts _ q1878) dJ38_bitCount_11 ?_
  refine lv_land hx hb dJ38_bitCount_14 ?_
  refine g_topl (lN ((sA1 6148914691236517205 x) &&& 3689348814741910323)) (show _ &&& lN 3689348814741910323 = _ from wb_and hA64 (by decide)) ?_
  refine lv_lload_n hx hb dJ38_bitCount_15 rfl (lv_at hl 0 rfl) ?_
  refine lv_iconst (v := zI 2) hx hb dJ38_bitCount_16 (by decide +kernel) ?_
  refine lv_lushr (v := ((lN (sA1 6148914691236517205 x)).toUInt64 >>> ((zI 2).toInt64.toUInt64 &&& Int64.toUInt64 63)).toInt64) hx hb dJ38_bitCount_17 rfl ?_
  refine g_topl (lN ((sA1 6148914691236517205 x) / 2 ^ 2)) (by rw [show zI 2 = nI 2 from by decide +kernel]; exact wb_shr hA64 (by decide)) ?_
  refine lv_ldc2 (v := 3689348814741910323) hx hb hown (hts _ q1878) dJ38_bitCount_18 ?_
  refine lv_land hx hb dJ38_bitCount_21 ?_
  have hA4 : (sA1 6148914691236517205 x) / 2 ^ 2 < 2 ^ 64 := by omega
  refine g_topl (lN ((sA1 6148914691236517205 x) / 2 ^ 2 &&& 3689348814741910323)) (show _ &&& lN 3689348814741910323 = _ from wb_and hA4 (by decide)) ?_
  refine lv_ladd hx hb dJ38_bitCount_22 ?_
  refine g_topl (lN (sB1 3689348814741910323 (sA1 6148914691236517205 x))) (lN_add _ _) ?_
  have hB64 : (sB1 3689348814741910323 (sA1 6148914691236517205 x)) < 2 ^ 63 := by have h1 : (sA1 6148914691236517205 x) &&& 3689348814741910323 ≤ 3689348814741910323 := Nat.and_le_right; have h2 : (sA1 6148914691236517205 x) / 4 &&& 3689348814741910323 ≤ 3689348814741910323 := Nat.and_le_right; unfold sB1; omega
  refine lv_lstore_n (lv' := [(0, .long (lN (sB1 3689348814741910323 (sA1 6148914691236517205 x))))]) hx hb dJ38_bitCount_23 rfl hl (by decide) rfl (fun ls hl => ?_)
  refine lv_lload_n hx hb dJ38_bitCount_24 rfl (lv_at hl 0 rfl) ?_
  refine lv_lload_n hx hb dJ38_bitCount_25 rfl (lv_at hl 0 rfl) ?_
  refine lv_iconst (v := zI 4) hx hb dJ38_bitCount_26 (by decide +kernel) ?_
  refine lv_lushr (v := ((lN (sB1 3689348814741910323 (sA1 6148914691236517205 x))).toUInt64 >>> ((zI 4).toInt64.toUInt64 &&& Int64.toUInt64 63)).toInt64) hx hb dJ38_bitCount_27 rfl ?_
  refine g_topl (lN ((sB1 3689348814741910323 (sA1 6148914691236517205 x)) / 2 ^ 4)) (by rw [show zI 4 = nI 4 from by decide +kernel]; exact wb_shr (by omega) (by decide)) ?_
  refine lv_ladd hx hb dJ38_bitCount_28 ?_
  refine g_topl (lN ((sB1 3689348814741910323 (sA1 6148914691236517205 x)) + (sB1 3689348814741910323 (sA1 6148914691236517205 x)) / 2 ^ 4)) (lN_add _ _) ?_
  refine lv_ldc2 (v := 1085102592571150095) hx hb hown (hts _ q1879) dJ38_bitCount_29 ?_
  refine lv_land hx hb dJ38_bitCount_32 ?_
  refine g_topl (lN (bcC x)) (show _ &&& lN 1085102592571150095 = _ from wb_and (by omega) (by decide)) ?_
  obtain ⟨hC, hE, hR⟩ := bc_all hx9
  refine lv_lstore_n (lv' := [(0, .long (lN (bcC x)))]) hx hb dJ38_bitCount_33 rfl hl (by decide) rfl (fun ls hl => ?_)
  refine lv_lload_n hx hb dJ38_bitCount_34 rfl (lv_at hl 0 rfl) ?_
  refine lv_lload_n hx hb dJ38_bitCount_35 rfl (lv_at hl 0 rfl) ?_
  refine lv_bipush (v := zI 8) hx hb dJ38_bitCount_36 (by decide +kernel) ?_
  refine lv_lushr (v := ((lN (bcC x)).toUInt64 >>> ((zI 8).toInt64.toUInt64 &&& Int64.toUInt64 63)).toInt64) hx hb dJ38_bitCount_38 rfl ?_
  refine g_topl (lN ((bcC x) / 2 ^ 8)) (by rw [show zI 8 = nI 8 from by decide +kernel]; exact wb_shr (by omega) (by decide)) ?_
  refine lv_ladd hx hb dJ38_bitCount_39 ?_
  refine g_topl (lN ((bcC x) + (bcC x) / 256)) (lN_add _ _) ?_
  refine lv_lstore_n (lv' := [(0, .long (lN ((bcC x) + (bcC x) / 256)))]) hx hb dJ38_bitCount_40 rfl hl (by decide) rfl (fun ls hl => ?_)
  refine lv_lload_n hx hb dJ38_bitCount_41 rfl (lv_at hl 0 rfl) ?_
  refine lv_lload_n hx hb dJ38_bitCount_42 rfl (lv_at hl 0 rfl) ?_
  refine lv_bipush (v := zI 16) hx hb dJ38_bitCount_43 (by decide +kernel) ?_
  refine lv_lushr (v := ((lN ((bcC x) + (bcC x) / 256)).toUInt64 >>> ((zI 16).toInt64.toUInt64 &&& Int64.toUInt64 63)).toInt64) hx hb dJ38_bitCount_45 rfl ?_
  refine g_topl (lN (((bcC x) + (bcC x) / 256) / 2 ^ 16)) (by rw [show zI 16 = nI 16 from by decide +kernel]; exact wb_shr (by omega) (by decide)) ?_
  refine lv_ladd hx hb dJ38_bitCount_46 ?_
  refine g_topl (lN (bcE (bcC x))) (lN_add _ _) ?_
  refine lv_lstore_n (lv' := [(0, .long (lN (bcE (bcC x))))]) hx hb dJ38_bitCount_47 rfl hl (by decide) rfl (fun ls hl => ?_)
  refine lv_lload_n hx hb dJ38_bitCount_48 rfl (lv_at hl 0 rfl) ?_
  refine lv_lload_n hx hb dJ38_bitCount_49 rfl (lv_at hl 0 rfl) ?_
  refine lv_bipush (v := zI 32) hx hb dJ38_bitCount_50 (by decide +kernel) ?_
  refine lv_lushr (v := ((lN (bcE (bcC x))).toUInt64 >>> ((zI 32).toInt64.toUInt64 &&& Int64.toUInt64 63)).toInt64) hx hb dJ38_bitCount_52 rfl ?_
  refine g_topl (lN (bcE (bcC x) / 2 ^ 32)) (by rw [show zI 32 = nI 32 from by decide +kernel]; exact wb_shr (by omega) (by decide)) ?_
  refine lv_ladd hx hb dJ38_bitCount_53 ?_
  refine g_topl (lN (bcE (bcC x))) (by rw [lN_add]; congr 1; omega) ?_
  refine lv_lstore_n (lv' := [(0, .long (lN (bcE (bcC x))))]) hx hb dJ38_bitCount_54 rfl hl (by decide) rfl (fun ls hl => ?_)
  refine lv_lload_n hx hb dJ38_bitCount_55 rfl (lv_at hl 0 rfl) ?_
  refine lv_l2i (v := (lN (bcE (bcC x))).toInt32) hx hb dJ38_bitCount_56 rfl ?_
  refine lv_topx (nI (bcE (bcC x))) (zI_lo _) ?_
  refine lv_bipush (v := zI 127) hx hb dJ38_bitCount_57 (by decide +kernel) ?_
  refine lv_iand hx hb dJ38_bitCount_59 ?_
  refine lv_topx (zI ((bc x 32 : Nat) : Int)) (by rw [show zI 127 = nI (2 ^ 7 - 1) from by decide +kernel, nx_and, Nat.and_two_pow_sub_one_eq_mod, show (2 : Nat) ^ 7 = 128 from rfl, hR, zI_nat]) ?_
  exact g_iret hx hb hr hlocks hG (⟨rfl, rfl, rfl, rfl⟩) ⟨Nat.le_of_ble_eq_true rfl, Nat.le_of_ble_eq_true rfl⟩ dJ38_bitCount_60

