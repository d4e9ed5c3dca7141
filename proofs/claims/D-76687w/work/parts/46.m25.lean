set_option maxRecDepth 100000
def sDraw (v : Int32) : Int32 := v * zI 1103515245 + zI 12345
theorem sDraw_z (z : Int) : zI (z * 1103515245 + 12345) = sDraw (zI z) := by rw [← zI_add, ← zI_mul]; rfl
def hi16 (x : Int32) : Nat := x.toUInt32.toNat / 65536
theorem hi16_lt (x : Int32) : hi16 x < 65536 := by have := x.toUInt32.toNat_lt; unfold hi16; omega
theorem zI_bv (n : Nat) (h : n < 2147483648) : (zI (n : Int)).toBitVec.toNat = n := by
  have h1 : (zI (n : Int)).toInt = n := zI_toInt ⟨by omega, by omega⟩
  have h2 : (zI (n : Int)).toInt = (zI (n : Int)).toBitVec.toInt := rfl
  have h3 := (zI (n : Int)).toBitVec.isLt
  rw [h2, BitVec.toInt_eq_toNat_cond] at h1
  by_cases hc : 2 * (zI (n : Int)).toBitVec.toNat < 2 ^ 32
  · rw [if_pos hc] at h1; omega
  · rw [if_neg hc] at h1; omega
theorem zI_ofN {x : Int32} {n : Nat} (h : x.toBitVec.toNat = n) (hn : n < 2147483648) : x = zI (n : Int) := by
  apply Int32.toBitVec_inj.mp
  apply BitVec.eq_of_toNat_eq
  rw [h, zI_bv n hn]
theorem hi16_z (x : Int32) : (x.toUInt32 >>> ((zI 16).toUInt32 &&& Int32.toUInt32 31)).toInt32 = zI ((hi16 x : Nat) : Int) := by
  refine zI_ofN ?_ (by have := hi16_lt x; omega)
  rw [UInt32.toBitVec_toInt32, UInt32.toBitVec_shiftRight, show ((zI 16).toUInt32 &&& Int32.toUInt32 31).toBitVec % 32 = (16 : BitVec 32) from by decide +kernel]
  simp [BitVec.toNat_ushiftRight, Nat.shiftRight_eq_div_pow]
  rfl
theorem zI_rem (a b : Nat) (ha : a < 2147483648) (hb : 0 < b ∧ b < 2147483648) : zI (a : Int) - zI (a : Int) / zI (b : Int) * zI (b : Int) = zI ((a % b : Nat) : Int) := by
  have h1 : (zI (a : Int)).toInt = a := zI_toInt ⟨by omega, by omega⟩
  have h2 : (zI (b : Int)).toInt = b := zI_toInt ⟨by omega, by omega⟩
  have hd : zI (a : Int) / zI (b : Int) = zI ((a / b : Nat) : Int) := by
    rw [zI_of (zI (a : Int) / zI (b : Int)), Jvm.Kit.i32_div (by rw [h1]; omega), h1, h2]
    congr 1
  have hm := Nat.div_add_mod a b
  have hmul : b * (a / b) = a / b * b := Nat.mul_comm _ _
  rw [hd, zI_mul, zI_sub]
  congr 1
  have : ((a / b : Nat) : Int) * (b : Int) = ((a / b * b : Nat) : Int) := (Int.natCast_mul _ _).symm
  omega
def insT (t : Tx) (k : Nat) (x : Ln) : Tx := t.take k ++ x :: t.drop k
def rmT (t : Tx) (k : Nat) : Tx := t.take k ++ t.drop (k + 1)
theorem gD_app (a b : Tx) (j : Nat) : (a ++ b).getD j [] = if j < a.length then a.getD j [] else b.getD (j - a.length) [] := by
  rw [List.getD_eq_getElem?_getD, List.getElem?_append]
  split
  · rw [List.getD_eq_getElem?_getD]
  · rw [List.getD_eq_getElem?_getD]
theorem gD_take (t : Tx) {k j : Nat} (h : j < k) : (t.take k).getD j [] = t.getD j [] := by
  rw [List.getD_eq_getElem?_getD, List.getElem?_take, if_pos h, List.getD_eq_getElem?_getD]
theorem gD_drop (t : Tx) (k j : Nat) : (t.drop k).getD j [] = t.getD (k + j) [] := by
  rw [List.getD_eq_getElem?_getD, List.getElem?_drop, List.getD_eq_getElem?_getD]
theorem gD_cons (x : Ln) (t : Tx) (j : Nat) : (x :: t).getD j [] = if j = 0 then x else t.getD (j - 1) [] := by
  cases j with
  | zero => rfl
  | succ j => rfl
theorem gD_set (t : Tx) (k j : Nat) (x : Ln) (h : k < t.length) : (t.set k x).getD j [] = if j = k then x else t.getD j [] := by
  rw [List.getD_eq_getElem?_getD, List.getElem?_set]
  by_cases hjk : j = k
  · subst hjk; rw [if_pos rfl, if_pos h, if_pos rfl]; rfl
  · rw [if_neg (fun q => hjk q.symm), if_neg hjk, List.getD_eq_getElem?_getD]
theorem insT_len {t : Tx} {k : Nat} {x : Ln} (h : k ≤ t.length) : (insT t k x).length = t.length + 1 := by
  unfold insT; rw [List.length_append, List.length_cons, List.length_take, List.length_drop]; omega
theorem rmT_len {t : Tx} {k : Nat} (h : k < t.length) : (rmT t k).length = t.length - 1 := by
  unfold rmT; rw [List.length_append, List.length_take, List.length_drop]; omega
theorem insT_get {t : Tx} {k : Nat} {x : Ln} (h : k ≤ t.length) (j : Nat) : (insT t k x).getD j [] = if j < k then t.getD j [] else if j = k then x else t.getD (j - 1) [] := by
  unfold insT
  rw [gD_app, List.length_take, show min k t.length = k by omega]
  by_cases hj : j < k
  · rw [if_pos hj, if_pos hj, gD_take t hj]
  · rw [if_neg hj, if_neg hj, gD_cons, gD_drop]
    by_cases hjk : j = k
    · rw [if_pos (by omega), if_pos hjk]
    · rw [if_neg (by omega), if_neg hjk, show k + (j - k - 1) = j - 1 by omega]
theorem rmT_get {t : Tx} {k : Nat} (h : k < t.length) (j : Nat) : (rmT t k).getD j [] = if j < k then t.getD j [] else t.getD (j + 1) [] := by
  unfold rmT
  rw [gD_app, List.length_take, show min k t.length = k by omega]
  by_cases hj : j < k
  · rw [if_pos hj, if_pos hj, gD_take t hj]
  · rw [if_neg hj, if_neg hj, gD_drop, show k + 1 + (j - k) = j + 1 by omega]
theorem gD_mem {t : Tx} {k : Nat} (h : k < t.length) : t.getD k [] ∈ t := by
  rw [List.getD_eq_getElem?_getD, List.getElem?_eq_getElem h]; exact List.getElem_mem h
theorem rmT_mem {t : Tx} {k : Nat} {c : Ln} (h : c ∈ rmT t k) : c ∈ t := by
  rcases List.mem_append.mp h with h | h
  · exact List.mem_of_mem_take h
  · exact List.mem_of_mem_drop h
theorem lnOK_1 {x : Nat} (h : 97 ≤ x ∧ x ≤ 122) : lnOK [x] := ⟨by show 1 ≤ 8; omega, fun y hy => by cases List.mem_singleton.mp hy; exact h⟩
/-! a revision behind the latest, a little other by draws -/
def dfT (w : aW) : Tx := wTx w (wN w - 1)
def dfV1 (w : aW) : Int32 := sDraw (wSeed w)
def dfA (w : aW) : Nat := hi16 (dfV1 w) % 4
def dfV2 (w : aW) : Int32 := if (dfT w).length = 0 then dfV1 w else sDraw (dfV1 w)
def dfK (w : aW) : Nat := if (dfT w).length = 0 then 0 else hi16 (sDraw (dfV1 w)) % (dfT w).length
def dfR (w : aW) : Tx × Int32 := if dfA w = 0 ∧ (dfT w).length < 24 then (insT (dfT w) (dfK w) [97 + hi16 (sDraw (dfV2 w)) % 26], sDraw (dfV2 w)) else if dfA w = 1 ∧ 0 < (dfT w).length then (rmT (dfT w) (dfK w), dfV2 w) else if dfA w = 2 ∧ 0 < (dfT w).length then ((dfT w).getD (dfK w) [] :: rmT (dfT w) (dfK w), dfV2 w) else if dfA w = 3 ∧ 0 < (dfT w).length then ((dfT w).set (dfK w) [122], dfV2 w) else (dfT w, dfV2 w)
def wDrift (w : aW) : aW := wAdd (wSeedTo w (dfR w).2) (some (wN w - 1)) (dfR w).1
def wDrifts (w : aW) : Nat → aW
  | 0 => w
  | n + 1 => wDrift (wDrifts w n)
def opDrift (a : aS) (n : Int) : Int × aS := if wN (aWd a) = 0 then aNoR a 5 else if ¬ (1 ≤ n ∧ n ≤ 15) then aNoR a 6 else if 16 < wN (aWd a) + n then aNoR a 7 else (wN (aWd a) + n - 1, aSetW a (wDrifts (aWd a) n.toNat))
theorem dfK_R (w : aW) : dfK w ≤ (dfT w).length ∧ (0 < (dfT w).length → dfK w < (dfT w).length) := by
  unfold dfK
  by_cases h : (dfT w).length = 0
  · rw [if_pos h]; omega
  · rw [if_neg h]; have := Nat.mod_lt (hi16 (sDraw (dfV1 w))) (show 0 < (dfT w).length by omega); omega
theorem dfR_ok {w : aW} (h : txOK (dfT w)) : txOK (dfR w).1 := by
  have hk := dfK_R w
  unfold dfR
  by_cases h0 : dfA w = 0 ∧ (dfT w).length < 24
  · rw [if_pos h0]
    refine ⟨by show (insT _ _ _).length ≤ 24; rw [insT_len hk.1]; omega, fun c hc => ?_⟩
    rcases List.mem_append.mp hc with hc | hc
    · exact h.2 c (List.mem_of_mem_take hc)
    · rcases List.mem_cons.mp hc with rfl | hc
      · exact lnOK_1 (by omega)
      · exact h.2 c (List.mem_of_mem_drop hc)
  · rw [if_neg h0]
    by_cases h1 : dfA w = 1 ∧ 0 < (dfT w).length
    · rw [if_pos h1]; exact ⟨by show (rmT _ _).length ≤ 24; rw [rmT_len (hk.2 h1.2)]; have := h.1; omega, fun c hc => h.2 c (rmT_mem hc)⟩
    · rw [if_neg h1]
      by_cases h2 : dfA w = 2 ∧ 0 < (dfT w).length
      · rw [if_pos h2]
        refine ⟨by show (rmT _ _).length + 1 ≤ 24; rw [rmT_len (hk.2 h2.2)]; have := h.1; omega, fun c hc => ?_⟩
        rcases List.mem_cons.mp hc with rfl | hc
        · exact h.2 _ (gD_mem (hk.2 h2.2))
        · exact h.2 c (rmT_mem hc)
      · rw [if_neg h2]
        by_cases h3 : dfA w = 3 ∧ 0 < (dfT w).length
        · rw [if_pos h3]
          refine ⟨by show ((dfT w).set _ _).length ≤ 24; rw [List.length_set]; exact h.1, fun c hc => ?_⟩
          rcases List.mem_or_eq_of_mem_set hc with hc | rfl
          · exact h.2 c hc
          · exact lnOK_1 (by omega)
        · rw [if_neg h3]; exact h
theorem wOK.seedTo {w : aW} (k : wOK w) (v : Int32) : wOK (wSeedTo w v) := k
theorem wOK.dr {w : aW} (k : wOK w) (h : 1 ≤ wN w ∧ wN w < 16) (v : Int32) {t : Tx} (ht : txOK t) : wOK (wAdd (wSeedTo w v) (some (wN w - 1)) t) := (k.seedTo v).add h.2 (fun f hf => by cases hf; show wN w - 1 < wN w; omega) ht
theorem wOK.drift {w : aW} (k : wOK w) (h : 1 ≤ wN w ∧ wN w < 16) : wOK (wDrift w) := by
  have ht := dfR_ok (w := w) (k.tx (by omega))
  unfold wDrift
  generalize (dfR w).1 = t at ht ⊢
  generalize (dfR w).2 = v
  exact k.dr h v ht
theorem wAddS_N (w : aW) (v : Int32) (fo : Option Nat) (t : Tx) : wN (wAdd (wSeedTo w v) fo t) = wN w + 1 := rfl
theorem wDrift_N (w : aW) : wN (wDrift w) = wN w + 1 := wAddS_N w (dfR w).2 (some (wN w - 1)) (dfR w).1
theorem wDrifts_N (w : aW) : ∀ n, wN (wDrifts w n) = wN w + n := by
  intro n
  induction n with
  | zero => rfl
  | succ n ih =>
    have := wDrift_N (wDrifts w n)
    rw [wDrifts, this]; omega
theorem wOK.drifts {w : aW} (k : wOK w) (h : 1 ≤ wN w) : ∀ n, wN w + n ≤ 16 → wOK (wDrifts w n) := by
  intro n
  induction n with
  | zero => intro _; exact k
  | succ n ih => intro hn; have := wDrifts_N w n; exact (ih (by omega)).drift (by omega)
def mKd (S T : mS) : Prop := ∀ k, k < 25 → (k ≠ 0 → k ≠ 8 → T.1 k = S.1 k) ∧ (k ≠ 1 → k ≠ 2 → k ≠ 4 → T.2.1 k = S.2.1 k) ∧ (k ≠ 3 → T.2.2 k = S.2.2 k)
theorem mKd.rf {S : mS} : mKd S S := fun _ _ => ⟨fun _ _ => rfl, fun _ _ _ => rfl, fun _ => rfl⟩
theorem mKd.tr {S T U : mS} (h : mKd S T) (k : mKd T U) : mKd S U := fun j hj => ⟨fun a b => ((k j hj).1 a b).trans ((h j hj).1 a b), fun a b d => ((k j hj).2.1 a b d).trans ((h j hj).2.1 a b d), fun a => ((k j hj).2.2 a).trans ((h j hj).2.2 a)⟩
theorem mX.dr {S T : mS} {a : aS} {w' : aW} (h : mX S a) (hO : mO T w') (e : mKd S T) : mX T (aSetW a w') :=
  ⟨hO, h.2.1.cg ⟨⟨(e 16 (by decide)).1 (by decide) (by decide), (e 17 (by decide)).1 (by decide) (by decide), (e 21 (by decide)).1 (by decide) (by decide), (e 24 (by decide)).1 (by decide) (by decide)⟩, ⟨(e 18 (by decide)).2.1 (by decide) (by decide) (by decide), (e 19 (by decide)).2.1 (by decide) (by decide) (by decide), (e 22 (by decide)).2.1 (by decide) (by decide) (by decide), (e 23 (by decide)).2.1 (by decide) (by decide) (by decide)⟩, (e 20 (by decide)).2.2 (by decide)⟩,
   fun s hs => (h.2.2.1 s hs).cg' ⟨(e 9 (by decide)).2.1 (by decide) (by decide) (by decide), (e 10 (by decide)).2.1 (by decide) (by decide) (by decide), (e 11 (by decide)).2.2 (by decide)⟩,
   fun j hj => (congrFun ((e 15 (by decide)).2.1 (by decide) (by decide) (by decide)) j).trans (h.2.2.2.1 j hj), ((e 12 (by decide)).1 (by decide) (by decide)).trans h.2.2.2.2.1, h.2.2.2.2.2.cg ⟨(e 13 (by decide)).1 (by decide) (by decide), (e 14 (by decide)).2.1 (by decide) (by decide) (by decide)⟩⟩
/-- the state while a revision drifts: seed v, the next one's lines n, its row g -/
def dS (S U : mS) (t : Nat) (v : Int32) (n : Int) (g : Nat → Int64) : Prop := (∀ k, k ≠ 8 → U.1 k = S.1 k) ∧ zI (U.1 8) = v ∧ (U.2.1 2 t = n ∧ ∀ j, j ≠ t → U.2.1 2 j = S.2.1 2 j) ∧ (∀ k, k ≠ 2 → U.2.1 k = S.2.1 k) ∧ (∀ j, j < 24 → U.2.2 3 (24 * t + j) = g j) ∧ (∀ x, x < 24 * t ∨ 24 * t + 24 ≤ x → U.2.2 3 x = S.2.2 3 x) ∧ ∀ k, k ≠ 3 → U.2.2 k = S.2.2 k
theorem dS.draw {S U : mS} {t : Nat} {v : Int32} {n : Int} {g : Nat → Int64} (h : dS S U t v n g) {u : Int32} {z : Int} (hz : zI z = u) : dS S (sI U 8 z) t u n g :=
  ⟨fun k hk => (sI_n hk).trans (h.1 k hk), by rw [sI_s]; exact hz, h.2.2⟩
theorem dS.len {S U : mS} {t : Nat} {v : Int32} {n : Int} {g : Nat → Int64} (h : dS S U t v n g) (z : Int) : dS S (sA U 2 t z) t v z g :=
  ⟨h.1, h.2.1, ⟨sA_s, fun j hj => (sA_n hj).trans (h.2.2.1.2 j hj)⟩, fun k hk => (sA_o hk).trans (h.2.2.2.1 k hk), h.2.2.2.2⟩
theorem dS.row {S U : mS} {t j : Nat} {v : Int32} {n : Int} {g : Nat → Int64} (h : dS S U t v n g) (hj : j < 24) (z : Int64) : dS S (sL U 3 (24 * t + j) z) t v n (va_up g j z) :=
  ⟨h.1, h.2.1, h.2.2.1, h.2.2.2.1, fun i hi => by by_cases hij : i = j; (subst hij; rw [sL_s, va_up_self]); (rw [sL_n (by omega), va_up_ne _ _ hij]; exact h.2.2.2.2.1 i hi), fun x hx => (sL_n (by omega)).trans (h.2.2.2.2.2.1 x hx), fun k hk => (sL_o hk).trans (h.2.2.2.2.2.2 k hk)⟩
theorem dS.o {S U : mS} {w : aW} {v : Int32} {n : Int} {g : Nat → Int64} (h : dS S U (wN w) v n g) (hO : mO S w) (hK : wOK w) : mO U (wSeedTo w v) := by
  obtain ⟨h1, h2, h3, h4, h5, h6, h7⟩ := h
  obtain ⟨o1, hr, hc, hm, o5, o6⟩ := hO
  have e7 := h4 7 (by decide)
  refine ⟨⟨(h1 0 (by decide)).trans o1.1, (h1 5 (by decide)).trans o1.2.1, h2⟩, ⟨fun q hq => ⟨?_, ?_, fun i hi => ?_⟩, by rw [e7]; exact hr.2⟩, ?_, ?_, by rw [e7]; exact o5, by rw [e7]; exact o6⟩
  · rw [h4 1 (by decide)]; exact hr.fo hq
  · have hq : q < wN w := hq
    rw [h3.2 q (by omega)]; exact hr.len hq
  · have hq : q < wN w := hq
    have hi : i < (wTx w q).length := hi
    have := (hK.tx hq).1
    rw [h6 _ (by omega)]; exact hr.ln hq hi
  · have hc' : mCm S w (wN w) := hc
    show mCm U w (wN w)
    unfold mCm; rw [h4 4 (by decide)]; exact hc'
  · have hm' : mRk S w := hm
    show mRk U w
    unfold mRk; rw [h4 6 (by decide)]; exact hm'
theorem dS.kd {S U T : mS} {t : Nat} {v : Int32} {n : Int} {g : Nat → Int64} (h : dS S U t v n g) (k : mK14 U T) : mKd S T := fun j hj => ⟨fun a b => ((k j hj).1 a).trans (h.1 j b), fun a b d => ((k j hj).2.1 a d).trans (h.2.2.2.1 j b), fun a => ((k j hj).2.2).trans (h.2.2.2.2.2.2 j a)⟩
theorem insRow {t : Tx} {k x : Nat} {g g0 : Nat → Int64} (hk : k ≤ t.length) (hg : ∀ j, g j = if k < j ∧ j ≤ t.length then g0 (j - 1) else g0 j) (h0 : ∀ j, j < t.length → g0 j = lnZ (t.getD j [])) (i : Nat) (hi : i ≤ t.length) : va_up g k (zL (97 + ((x : Nat) : Int))) i = lnZ ((insT t k [97 + x]).getD i []) := by
  rw [insT_get hk]
  by_cases hik : i = k
  · subst hik; rw [va_up_self, if_neg (by omega), if_pos rfl]
    show zL _ = zL ((97 + x + 256 * 0 : Nat) : Int)
    congr 1
  · rw [va_up_ne _ _ hik, hg i]
    by_cases h1 : i < k
    · rw [if_neg (by omega), if_pos h1]; exact h0 i (by omega)
    · rw [if_pos (by omega), if_neg h1, if_neg hik]; exact h0 _ (by omega)
theorem frRow {t : Tx} {k : Nat} {g g0 : Nat → Int64} (hk : k < t.length) (hg : ∀ j, g j = if 0 < j ∧ j ≤ k then g0 (j - 1) else g0 j) (h0 : ∀ j, j < t.length → g0 j = lnZ (t.getD j [])) (i : Nat) (hi : i < t.length) : va_up g 0 (g0 k) i = lnZ ((t.getD k [] :: rmT t k).getD i []) := by
  rw [gD_cons]
  by_cases hi0 : i = 0
  · subst hi0; rw [va_up_self, if_pos rfl]; exact h0 k hk
  · rw [va_up_ne _ _ hi0, if_neg hi0, hg i, rmT_get hk]
    by_cases h1 : i ≤ k
    · rw [if_pos (by omega), if_pos (by omega)]; exact h0 _ (by omega)
    · rw [if_neg (by omega), if_neg (by omega), show i - 1 + 1 = i by omega]; exact h0 i hi
set_option maxHeartbeats 4000000 in
theorem metX4_draw {l : Launch} {X : gX} {mo : Nat} {ad : Nat → Nat} {S : mS} {n : Nat} {v : Int32} (hs9 : zI (S.1 8) = v) (hn : 0 < n ∧ n < 65536) : Met l yX4_draw (ws_ yX4_draw cX4_draw 2 (some FieldType.int)) ({ frames := 0, cells := 0, slots := 0, locals := 0 }) (mP X mo ad S [.ref mo, .int (zI (n : Int))]) (mQi X mo ad (fun u T => u = zI ((hi16 (sDraw v) % n : Nat) : Int) ∧ ∃ z : Int, zI z = sDraw v ∧ T = sI S 8 z)) 0 0 (mA mo ad) := by
  refine Met.m (by decide) (Nat.le_of_ble_eq_true rfl) ?_
  intro p e s m below meth c ls hx hb hr hts hown hlocks hml hG hl
  have hl : lv_has ls 2 [(0, .ref mo), (1, .int (zI (n : Int)))] := hl
  refine lv_aload_n hx hb dX4_draw_0 rfl (lv_at hl 0 rfl) ?_
  refine lv_aload_n hx hb dX4_draw_1 rfl (lv_at hl 0 rfl) ?_
  refine m_get 8 (by decide) (v := .int (zI (S.1 8))) rfl hx hb hts hown hG (hts _ q3304) dX4_draw_2 ?_
  refine lv_ldcw (v := 1103515245) hx hb hown (hts _ q3700) dX4_draw_5 ?_
  refine lv_topx (zI 1103515245) (by decide +kernel) ?_
  refine g_imul hx hb dX4_draw_8 ?_
  refine lv_sipush (v := zI 12345) hx hb dX4_draw_9 (by decide +kernel) ?_
  refine g_iadd hx hb dX4_draw_12 ?_
  obtain ⟨z, hz⟩ : ∃ z, z = S.1 8 * 1103515245 + 12345 := ⟨_, rfl⟩
  refine g_topz (y := z) hz.symm ?_
  have hzs : zI z = sDraw v := by rw [hz, sDraw_z, hs9]
  refine m_put 8 (by decide) rfl rfl (tyX4_ok 8 (by decide)) rfl rfl hx hb hts hown hG (hts _ q3304) dX4_draw_13 (fun H locs (hG : mW X mo ad (sI S 8 z) s H locs) => ?_)
  refine lv_aload_n hx hb dX4_draw_16 rfl (lv_at hl 0 rfl) ?_
  refine m_get 8 (by decide) (v := .int (zI z)) rfl hx hb hts hown hG (hts _ q3304) dX4_draw_17 ?_
  refine lv_bipush (v := zI 16) hx hb dX4_draw_20 (by decide +kernel) ?_
  refine lv_iushr (v := ((zI z).toUInt32 >>> ((zI 16).toUInt32 &&& Int32.toUInt32 31)).toInt32) hx hb dX4_draw_22 rfl ?_
  refine lv_topx (zI ((hi16 (sDraw v) : Nat) : Int)) (by rw [hzs]; exact hi16_z _) ?_
  have hh := hi16_lt (sDraw v)
  refine lv_iload_n hx hb dX4_draw_23 rfl (lv_at hl 1 rfl) ?_
  refine lv_irem hx hb dX4_draw_24 (fun q => by have q := (zI_eq ⟨⟨by omega, by omega⟩, by decide⟩).mp (q.trans zI_0); omega) ?_
  refine lv_topx (zI ((hi16 (sDraw v) % n : Nat) : Int)) (zI_rem _ _ (by omega) ⟨by omega, by omega⟩) ?_
  exact m_iret hx hb hr hlocks hG (⟨rfl, z, hzs, rfl⟩) ⟨Nat.le_of_ble_eq_true rfl, Nat.le_of_ble_eq_true rfl⟩ dX4_draw_25

set_option maxHeartbeats 4000000 in
theorem metX4_drifts {l : Launch} {X : gX} {mo : Nat} {ad : Nat → Nat} {S : mS} {w : aW} (hO : mO S w) (hK : wOK w) (hn1 : 1 ≤ wN w ∧ wN w < 16) : Met l yX4_drifts (ws_ yX4_drifts cX4_drifts 9 none) ({ frames := 6, cells := 0, slots := 0, locals := 143 }) (mP X mo ad S [.ref mo]) (mQv X mo ad (fun T => mO T (wDrift w) ∧ mKd S T)) 0 0 (mA mo ad) := by
  refine Met.m (by decide) (Nat.le_of_ble_eq_true rfl) ?_
  intro p e s m below meth c ls hx hb hr hts hown hlocks hml hG hl
  have hl : lv_has ls 9 [(0, .ref mo)] := hl
  have hNN := hK.n
  have hMM := hK.m
  refine lv_aload_n hx hb dX4_drifts_0 rfl (lv_at hl 0 rfl) ?_
  refine m_get 0 (by decide) (v := .int (zI (wN w : Int))) (congrArg (fun z => Value.int (zI z)) (show S.1 0 = (wN w : Int) from hO.n)) hx hb hts hown hG (hts _ q3296) dX4_drifts_1 ?_
  refine lv_istore_n (lv' := [(1, .int (zI (wN w : Int))), (0, .ref mo)]) hx hb dX4_drifts_4 rfl hl (by decide) rfl (fun ls hl => ?_)
  refine lv_bipush (v := zI 24) hx hb dX4_drifts_5 (by decide +kernel) ?_
  refine lv_iload_n hx hb dX4_drifts_7 rfl (lv_at hl 0 rfl) ?_
  refine g_imul hx hb dX4_drifts_8 ?_
  refine lv_istore_n (lv' := [(2, .int (zI (24 * (wN w : Int)))), (1, .int (zI (wN w : Int))), (0, .ref mo)]) hx hb dX4_drifts_9 rfl hl (by decide) rfl (fun ls hl => ?_)
  refine lv_aload_n hx hb dX4_drifts_10 rfl (lv_at hl 2 rfl) ?_
  refine lv_iload_n hx hb dX4_drifts_11 rfl (lv_at hl 1 rfl) ?_
  refine lv_iconst (v := zI 1) hx hb dX4_drifts_12 (by decide +kernel) ?_
  refine g_isub hx hb dX4_drifts_13 ?_
  refine g_topz (y := ((wN w - 1 : Nat) : Int)) (by omega) ?_
  refine m_cv (va_runV (As := [.int (zI ((wN w - 1 : Nat) : Int))]) (rest := []) ⟨hx, hb, hml, hown, hts⟩ (metX4_copies (n := wN w) (r := wN w - 1) ⟨hO.n, by omega, by omega⟩) (cwV 1 hts (lw_V q3684 q3686 qs77 q102 q3687) rfl rfl rfl (by decide +kernel) ⟨Nat.le_of_ble_eq_true rfl, Nat.le_of_ble_eq_true rfl⟩) (m_preV hG) rfl rfl hl.1 rfl (lv_room (Nat.le_of_ble_eq_true rfl)) dX4_drifts_14 ⟨Nat.le_of_ble_eq_true rfl, Nat.le_of_ble_eq_true rfl⟩) hG (fun S_2 H locs hp hG => ?_)
  obtain ⟨hcI, hc2, hcA, hcL, hcO, hcK⟩ := hp
  have hG : mW X mo ad S_2 s H locs := hG
  have htx := hK.tx (r := wN w - 1) (by omega)
  have ht24 : (dfT w).length ≤ 24 := htx.1
  have hd : dS S S_2 (wN w) (wSeed w) ((dfT w).length : Nat) (fun j => S.2.2 3 (24 * (wN w - 1) + j)) := ⟨fun k _ => congrFun hcI k, (congrArg zI (congrFun hcI 8)).trans hO.seed, ⟨(hc2 _).trans ((if_pos rfl).trans (hO.len (by omega))), fun j hj => (hc2 j).trans (if_neg hj)⟩, hcA, hcL, hcO, hcK⟩
  have hg0 : ∀ j, j < (dfT w).length → S.2.2 3 (24 * (wN w - 1) + j) = lnZ ((dfT w).getD j []) := fun j hj => hO.ln (by omega) hj
  refine lv_aload_n hx hb dX4_drifts_17 rfl (lv_at hl 2 rfl) ?_
  refine m_get 2 (by decide) (v := .ref (ad 2)) rfl hx hb hts hown hG (hts _ q3298) dX4_drifts_18 ?_
  refine lv_iload_n hx hb dX4_drifts_21 rfl (lv_at hl 1 rfl) ?_
  refine m_iald 2 rfl rfl (by decide) (wN w) (v := ((dfT w).length : Int)) ⟨by omega, by show _ < 17; omega⟩ (show S_2.2.1 2 (wN w) = ((dfT w).length : Int) from hd.2.2.1.1) hx hb hG dX4_drifts_22 ?_
  refine lv_istore_n (lv' := [(3, .int (zI ((dfT w).length : Int))), (2, .int (zI (24 * (wN w : Int)))), (1, .int (zI (wN w : Int))), (0, .ref mo)]) hx hb dX4_drifts_23 rfl hl (by decide) rfl (fun ls hl => ?_)
  refine lv_aload_n hx hb dX4_drifts_24 rfl (lv_at hl 3 rfl) ?_
  refine lv_iconst (v := zI 4) hx hb dX4_drifts_25 (by decide +kernel) ?_
  refine g_topz (y := ((4 : Nat) : Int)) rfl ?_
  refine m_ci (va_runV (As := [.int (zI ((4 : Nat) : Int))]) (rest := []) ⟨hx, hb, hml, hown, hts⟩ (metX4_draw (n := 4) (v := (wSeed w)) hd.2.1 (by omega)) (cwV 1 hts (lw_V q3696 q3698 qs79 q102 q3699) rfl rfl rfl (by decide +kernel) ⟨Nat.le_of_ble_eq_true rfl, Nat.le_of_ble_eq_true rfl⟩) (m_preV hG) rfl rfl hl.1 rfl (lv_room (Nat.le_of_ble_eq_true rfl)) dX4_drifts_26 ⟨Nat.le_of_ble_eq_true rfl, Nat.le_of_ble_eq_true rfl⟩) hG (fun r_4 S_5 H locs hp hG => ?_)
  obtain ⟨rfl, z_3, hz_3, rfl⟩ := hp
  have hG : mW X mo ad (sI S_2 8 z_3) s H locs := hG
  have hd := hd.draw hz_3
  have hkR := dfK_R w
  have hAR : dfA w < 4 := Nat.mod_lt _ (by decide)
  refine lv_istore (lv' := [(4, .int (zI ((hi16 (sDraw (wSeed w)) % 4 : Nat) : Int))), (3, .int (zI ((dfT w).length : Int))), (2, .int (zI (24 * (wN w : Int)))), (1, .int (zI (wN w : Int))), (0, .ref mo)]) hx hb dX4_drifts_29 hl (by decide) rfl (fun ls hl => ?_)
  refine lv_iload_n hx hb dX4_drifts_31 rfl (lv_at hl 1 rfl) ?_
  refine g_ne (tgt := 39) hx hb dX4_drifts_32 (by decide) (by omega) (fun hz => ?_) (fun hz => ?_)
  · refine lv_aload_n hx hb dX4_drifts_39 rfl (lv_at hl 4 rfl) ?_
    refine lv_iload_n hx hb dX4_drifts_40 rfl (lv_at hl 1 rfl) ?_
    have hzn : ¬ (dfT w).length = 0 := by omega
    have e2 : dfV2 w = sDraw (dfV1 w) := if_neg hzn
    have eK : dfK w = hi16 (sDraw (dfV1 w)) % (dfT w).length := if_neg hzn
    refine g_topz (y := (((dfT w).length : Nat) : Int)) rfl ?_
    refine m_ci (va_runV (As := [.int (zI (((dfT w).length : Nat) : Int))]) (rest := []) ⟨hx, hb, hml, hown, hts⟩ (metX4_draw (n := (dfT w).length) (v := (dfV1 w)) hd.2.1 (by omega)) (cwV 1 hts (lw_V q3696 q3698 qs79 q102 q3699) rfl rfl rfl (by decide +kernel) ⟨Nat.le_of_ble_eq_true rfl, Nat.le_of_ble_eq_true rfl⟩) (m_preV hG) rfl rfl hl.1 rfl (lv_room (Nat.le_of_ble_eq_true rfl)) dX4_drifts_41 ⟨Nat.le_of_ble_eq_true rfl, Nat.le_of_ble_eq_true rfl⟩) hG (fun r_7 S_8 H locs hp hG => ?_)
    obtain ⟨rfl, z_6, hz_6, rfl⟩ := hp
    have hG : mW X mo ad (sI (sI S_2 8 z_3) 8 z_6) s H locs := hG
    have hd := hd.draw hz_6
    rw [← e2] at hd
    refine g_topz (y := (dfK w : Int)) (by rw [eK]) ?_
    obtain ⟨U, hU⟩ : ∃ U, U = (sI (sI S_2 8 z_3) 8 z_6) := ⟨_, rfl⟩
    rw [← hU] at hd hG
    refine lv_istore (lv' := [(5, .int (zI (dfK w : Int))), (4, .int (zI ((hi16 (sDraw (wSeed w)) % 4 : Nat) : Int))), (3, .int (zI ((dfT w).length : Int))), (2, .int (zI (24 * (wN w : Int)))), (1, .int (zI (wN w : Int))), (0, .ref mo)]) hx hb dX4_drifts_44 hl (by decide) rfl (fun ls hl => ?_)
    have hl : lv_has ls 9 [(5, .int (zI (dfK w : Int))), (4, .int (zI (dfA w : Int))), (3, .int (zI ((dfT w).length : Int))), (2, .int (zI (24 * (wN w : Int)))), (1, .int (zI (wN w : Int))), (0, .ref mo)] := by exact hl
    rcases (show dfA w = 0 ∨ dfA w = 1 ∨ dfA w = 2 ∨ dfA w = 3 by omega) with hA | hA | hA | hA
    · have hl : lv_has ls 9 [(5, .int (zI (dfK w : Int))), (4, .int (zI 0)), (3, .int (zI ((dfT w).length : Int))), (2, .int (zI (24 * (wN w : Int)))), (1, .int (zI (wN w : Int))), (0, .ref mo)] := by rw [hA] at hl; exact hl
      refine lv_iload hx hb dX4_drifts_46 (lv_at hl 1 rfl) ?_
      refine g_ne (tgt := 122) hx hb dX4_drifts_48 (by decide) (by decide) (fun hq => ?_) (fun hq => ?_)
      · exfalso; omega
      · refine lv_iload_n hx hb dX4_drifts_51 rfl (lv_at hl 2 rfl) ?_
        refine lv_bipush (v := zI 24) hx hb dX4_drifts_52 (by decide +kernel) ?_
        refine g_cge (tgt := 122) hx hb dX4_drifts_54 (by decide) (by omega) (fun h5 => ?_) (fun h5 => ?_)
        · refine lv_iload hx hb dX4_drifts_122 (lv_at hl 1 rfl) ?_
          refine lv_iconst (v := zI 1) hx hb dX4_drifts_124 (by decide +kernel) ?_
          refine g_cne (tgt := 180) hx hb dX4_drifts_125 (by decide) (by omega) (fun hq => ?_) (fun hq => ?_)
          · refine lv_iload hx hb dX4_drifts_180 (lv_at hl 1 rfl) ?_
            refine lv_iconst (v := zI 2) hx hb dX4_drifts_182 (by decide +kernel) ?_
            refine g_cne (tgt := 244) hx hb dX4_drifts_183 (by decide) (by omega) (fun hq => ?_) (fun hq => ?_)
            · refine lv_iload hx hb dX4_drifts_244 (lv_at hl 1 rfl) ?_
              refine lv_iconst (v := zI 3) hx hb dX4_drifts_246 (by decide +kernel) ?_
              refine g_cne (tgt := 266) hx hb dX4_drifts_247 (by decide) (by omega) (fun hq => ?_) (fun hq => ?_)
              · refine lv_aload_n hx hb dX4_drifts_266 rfl (lv_at hl 5 rfl) ?_
                refine lv_iload_n hx hb dX4_drifts_267 rfl (lv_at hl 4 rfl) ?_
                refine lv_iconst (v := zI 1) hx hb dX4_drifts_268 (by decide +kernel) ?_
                refine g_isub hx hb dX4_drifts_269 ?_
                refine g_topz (y := oI (some (wN w - 1))) (by rw [oI_some]; omega) ?_
                obtain ⟨vv, hvv⟩ : ∃ vv, vv = dfV2 w := ⟨_, rfl⟩
                obtain ⟨tt, htt⟩ : ∃ tt, tt = dfT w := ⟨_, rfl⟩
                have hd : dS S U (wN w) vv (((dfT w).length : Int)) ((fun j => S.2.2 3 (24 * (wN w - 1) + j))) := by rw [hvv]; exact hd
                have hR : dfR w = (tt, vv) := by rw [hvv, htt]; unfold dfR; rw [if_neg (by omega), if_neg (by omega), if_neg (by omega), if_neg (by omega)]
                have htx2 : txOK (dfR w).1 := dfR_ok htx
                rw [hR] at htx2
                have htx2 : txOK tt := htx2
                have hlen : ((dfT w).length : Int) = (tt.length : Nat) := by rw [htt]; all_goals (exact rfl)
                have hrow : ∀ i9, i9 < tt.length → (fun j => S.2.2 3 (24 * (wN w - 1) + j)) i9 = lnZ (tt.getD i9 []) := by intro i9 hi; rw [htt] at hi ⊢; exact (hg0 i9 hi)
                refine m_ci (va_runV (As := [.int (zI (oI (some (wN w - 1))))]) (rest := []) ⟨hx, hb, hml, hown, hts⟩ (metX4_comesTo (w := wSeedTo w vv) (fo := some (wN w - 1)) (t := tt) (hd.o hO hK) (hK.seedTo vv) (show wN (wSeedTo w vv) < 16 from hn1.2) (fun f hf => by cases hf; show wN w - 1 < wN w; omega) htx2 (hd.2.2.1.1.trans hlen) (fun i9 hi => (hd.2.2.2.2.1 i9 (by have := htx2.1; omega)).trans (hrow i9 hi))) (cwV 1 hts (lw_V q3493 q3495 qs51 q102 q3496) rfl rfl rfl (by decide +kernel) ⟨Nat.le_of_ble_eq_true rfl, Nat.le_of_ble_eq_true rfl⟩) (m_preV hG) rfl rfl hl.1 rfl (lv_room (Nat.le_of_ble_eq_true rfl)) dX4_drifts_270 ⟨Nat.le_of_ble_eq_true rfl, Nat.le_of_ble_eq_true rfl⟩) hG (fun r_9 S_10 H locs hp hG => ?_)
                obtain ⟨rfl, hO9, hk14⟩ := hp
                have hG : mW X mo ad S_10 s H locs := hG
                refine lv_pop hx hb dX4_drifts_273 rfl ?_
                exact m_vret hx hb hr hlocks hG (⟨by unfold wDrift; rw [hR]; exact hO9, hd.kd hk14⟩) ⟨Nat.le_of_ble_eq_true rfl, Nat.le_of_ble_eq_true rfl⟩ dX4_drifts_274
              · exfalso; omega
            · exfalso; omega
          · exfalso; omega
        · refine lv_iload_n hx hb dX4_drifts_57 rfl (lv_at hl 2 rfl) ?_
          refine lv_istore (lv' := [(6, .int (zI ((dfT w).length : Int))), (5, .int (zI (dfK w : Int))), (4, .int (zI 0)), (3, .int (zI ((dfT w).length : Int))), (2, .int (zI (24 * (wN w : Int)))), (1, .int (zI (wN w : Int))), (0, .ref mo)]) hx hb dX4_drifts_58 hl (by decide) rfl (fun ls hl => ?_)
          refine g_loop (fun mz H locs ls => ∃ (i : Nat) (T : mS) (g : Nat → Int64), (dfK w ≤ i ∧ i ≤ (dfT w).length ∧ mz = i - dfK w ∧ dS S T (wN w) (dfV2 w) ((dfT w).length : Nat) g ∧ ∀ j, g j = if i < j ∧ j ≤ (dfT w).length then (fun j => S.2.2 3 (24 * (wN w - 1) + j)) (j - 1) else (fun j => S.2.2 3 (24 * (wN w - 1) + j)) j) ∧ mW X mo ad T s H locs ∧ lv_has ls 9 [(0, .ref mo), (1, .int (zI (wN w : Int))), (2, .int (zI (24 * (wN w : Int)))), (3, .int (zI ((dfT w).length : Int))), (4, .int (zI 0)), (5, .int (zI (dfK w : Int))), (6, .int (zI (i : Int)))]) ((dfT w).length - dfK w) ⟨((dfT w).length), U, _, ⟨hkR.1, Nat.le_refl _, rfl, hd, fun j => by rw [if_neg (by omega)]⟩, hG, (lv_sub hl [6, 5, 4, 3, 2, 1, 0] rfl)⟩ (fun mz ihI H locs ls hI => ?_)
          obtain ⟨i, T, g, ⟨hki, hin, hmz, hd, hg⟩, hG, hl⟩ := hI
          refine lv_iload hx hb dX4_drifts_60 (lv_at hl 6 rfl) ?_
          refine lv_iload hx hb dX4_drifts_62 (lv_at hl 5 rfl) ?_
          refine g_cle (tgt := 93) hx hb dX4_drifts_64 (by decide) (by omega) (fun h6 => ?_) (fun h6 => ?_)
          · have hik : i = dfK w := by omega
            rw [hik] at hg
            refine lv_aload_n hx hb dX4_drifts_93 rfl (lv_at hl 0 rfl) ?_
            refine m_get 3 (by decide) (v := .ref (ad 3)) rfl hx hb hts hown hG (hts _ q3299) dX4_drifts_94 ?_
            refine lv_iload_n hx hb dX4_drifts_97 rfl (lv_at hl 2 rfl) ?_
            refine lv_iload hx hb dX4_drifts_98 (lv_at hl 5 rfl) ?_
            refine g_iadd hx hb dX4_drifts_100 ?_
            refine lv_bipush (v := zI 97) hx hb dX4_drifts_101 (by decide +kernel) ?_
            refine lv_aload_n hx hb dX4_drifts_103 rfl (lv_at hl 0 rfl) ?_
            refine lv_bipush (v := zI 26) hx hb dX4_drifts_104 (by decide +kernel) ?_
            refine g_topz (y := ((26 : Nat) : Int)) rfl ?_
            refine m_ci (va_runV (As := [.int (zI ((26 : Nat) : Int))]) (rest := [.int (zI 97), .int (zI ((24 * (wN w : Int)) + (dfK w : Int))), .ref (ad 3)]) ⟨hx, hb, hml, hown, hts⟩ (metX4_draw (n := 26) (v := (dfV2 w)) hd.2.1 (by omega)) (cwV 1 hts (lw_V q3696 q3698 qs79 q102 q3699) rfl rfl rfl (by decide +kernel) ⟨Nat.le_of_ble_eq_true rfl, Nat.le_of_ble_eq_true rfl⟩) (m_preV hG) rfl rfl hl.1 rfl (lv_room (Nat.le_of_ble_eq_true rfl)) dX4_drifts_106 ⟨Nat.le_of_ble_eq_true rfl, Nat.le_of_ble_eq_true rfl⟩) hG (fun r_12 S_13 H locs hp hG => ?_)
            obtain ⟨rfl, z_11, hz_11, rfl⟩ := hp
            have hG : mW X mo ad (sI T 8 z_11) s H locs := hG
            have hd := hd.draw hz_11
            refine g_iadd hx hb dX4_drifts_109 ?_
            refine g_i2l hx hb dX4_drifts_110 (by omega) ?_
            refine m_last 3 rfl rfl (24 * wN w + dfK w) ⟨by omega, by show _ < 408; omega⟩ hx hb hG dX4_drifts_111 (fun H locs (hG : mW X mo ad (sL (sI T 8 z_11) 3 (24 * wN w + dfK w) (zL (97 + ((hi16 (sDraw (dfV2 w)) % 26 : Nat) : Int)))) s H locs) => ?_)
            have hd := hd.row (j := dfK w) (by omega) (zL (97 + ((hi16 (sDraw (dfV2 w)) % 26 : Nat) : Int)))
            refine lv_aload_n hx hb dX4_drifts_112 rfl (lv_at hl 0 rfl) ?_
            refine m_get 2 (by decide) (v := .ref (ad 2)) rfl hx hb hts hown hG (hts _ q3298) dX4_drifts_113 ?_
            refine lv_iload_n hx hb dX4_drifts_116 rfl (lv_at hl 1 rfl) ?_
            refine lv_dup2_11 hx hb dX4_drifts_117 rfl rfl ?_
            refine m_iald 2 rfl rfl (by decide) (wN w) (v := ((dfT w).length : Int)) ⟨by omega, by show _ < 17; omega⟩ (show (sL (sI T 8 z_11) 3 (24 * wN w + dfK w) (zL (97 + ((hi16 (sDraw (dfV2 w)) % 26 : Nat) : Int)))).2.1 2 (wN w) = ((dfT w).length : Int) from hd.2.2.1.1) hx hb hG dX4_drifts_118 ?_
            refine lv_iconst (v := zI 1) hx hb dX4_drifts_119 (by decide +kernel) ?_
            refine g_iadd hx hb dX4_drifts_120 ?_
            refine m_iast 2 rfl rfl (by decide) (wN w) ⟨by omega, by show _ < 17; omega⟩ hx hb hG dX4_drifts_121 (fun H locs (hG : mW X mo ad (sA (sL (sI T 8 z_11) 3 (24 * wN w + dfK w) (zL (97 + ((hi16 (sDraw (dfV2 w)) % 26 : Nat) : Int)))) 2 (wN w) (((dfT w).length : Int) + 1)) s H locs) => ?_)
            have hd := hd.len (((dfT w).length : Int) + 1)
            refine lv_iload hx hb dX4_drifts_122 (lv_at hl 4 rfl) ?_
            refine lv_iconst (v := zI 1) hx hb dX4_drifts_124 (by decide +kernel) ?_
            refine g_cne (tgt := 180) hx hb dX4_drifts_125 (by decide) (by omega) (fun hq => ?_) (fun hq => ?_)
            · refine lv_iload hx hb dX4_drifts_180 (lv_at hl 4 rfl) ?_
              refine lv_iconst (v := zI 2) hx hb dX4_drifts_182 (by decide +kernel) ?_
              refine g_cne (tgt := 244) hx hb dX4_drifts_183 (by decide) (by omega) (fun hq => ?_) (fun hq => ?_)
              · refine lv_iload hx hb dX4_drifts_244 (lv_at hl 4 rfl) ?_
                refine lv_iconst (v := zI 3) hx hb dX4_drifts_246 (by decide +kernel) ?_
                refine g_cne (tgt := 266) hx hb dX4_drifts_247 (by decide) (by omega) (fun hq => ?_) (fun hq => ?_)
                · obtain ⟨U2, hU2⟩ : ∃ U2, U2 = (sA (sL (sI T 8 z_11) 3 (24 * wN w + dfK w) (zL (97 + ((hi16 (sDraw (dfV2 w)) % 26 : Nat) : Int)))) 2 (wN w) (((dfT w).length : Int) + 1)) := ⟨_, rfl⟩
                  rw [← hU2] at hd hG
                  refine lv_aload_n hx hb dX4_drifts_266 rfl (lv_at hl 0 rfl) ?_
                  refine lv_iload_n hx hb dX4_drifts_267 rfl (lv_at hl 1 rfl) ?_
                  refine lv_iconst (v := zI 1) hx hb dX4_drifts_268 (by decide +kernel) ?_
                  refine g_isub hx hb dX4_drifts_269 ?_
                  refine g_topz (y := oI (some (wN w - 1))) (by rw [oI_some]; omega) ?_
                  obtain ⟨vv, hvv⟩ : ∃ vv, vv = sDraw (dfV2 w) := ⟨_, rfl⟩
                  obtain ⟨tt, htt⟩ : ∃ tt, tt = insT (dfT w) (dfK w) [97 + hi16 (sDraw (dfV2 w)) % 26] := ⟨_, rfl⟩
                  have hd : dS S U2 (wN w) vv (((dfT w).length : Int) + 1) (va_up g (dfK w) (zL (97 + ((hi16 (sDraw (dfV2 w)) % 26 : Nat) : Int)))) := by rw [hvv]; exact hd
                  have hR : dfR w = (tt, vv) := by rw [hvv, htt]; unfold dfR; rw [if_pos (by omega)]
                  have htx2 : txOK (dfR w).1 := dfR_ok htx
                  rw [hR] at htx2
                  have htx2 : txOK tt := htx2
                  have hlen : ((dfT w).length : Int) + 1 = (tt.length : Nat) := by rw [htt]; all_goals (exact (by rw [insT_len hkR.1]; rfl))
                  have hrow : ∀ i9, i9 < tt.length → va_up g (dfK w) (zL (97 + ((hi16 (sDraw (dfV2 w)) % 26 : Nat) : Int))) i9 = lnZ (tt.getD i9 []) := by intro i9 hi; rw [htt] at hi ⊢; exact (by rw [insT_len hkR.1] at hi; exact (insRow hkR.1 hg hg0 i9 (by omega)))
                  refine m_ci (va_runV (As := [.int (zI (oI (some (wN w - 1))))]) (rest := []) ⟨hx, hb, hml, hown, hts⟩ (metX4_comesTo (w := wSeedTo w vv) (fo := some (wN w - 1)) (t := tt) (hd.o hO hK) (hK.seedTo vv) (show wN (wSeedTo w vv) < 16 from hn1.2) (fun f hf => by cases hf; show wN w - 1 < wN w; omega) htx2 (hd.2.2.1.1.trans hlen) (fun i9 hi => (hd.2.2.2.2.1 i9 (by have := htx2.1; omega)).trans (hrow i9 hi))) (cwV 1 hts (lw_V q3493 q3495 qs51 q102 q3496) rfl rfl rfl (by decide +kernel) ⟨Nat.le_of_ble_eq_true rfl, Nat.le_of_ble_eq_true rfl⟩) (m_preV hG) rfl rfl hl.1 rfl (lv_room (Nat.le_of_ble_eq_true rfl)) dX4_drifts_270 ⟨Nat.le_of_ble_eq_true rfl, Nat.le_of_ble_eq_true rfl⟩) hG (fun r_14 S_15 H locs hp hG => ?_)
                  obtain ⟨rfl, hO9, hk14⟩ := hp
                  have hG : mW X mo ad S_15 s H locs := hG
                  refine lv_pop hx hb dX4_drifts_273 rfl ?_
                  exact m_vret hx hb hr hlocks hG (⟨by unfold wDrift; rw [hR]; exact hO9, hd.kd hk14⟩) ⟨Nat.le_of_ble_eq_true rfl, Nat.le_of_ble_eq_true rfl⟩ dX4_drifts_274
                · exfalso; omega
              · exfalso; omega
            · exfalso; omega
          · obtain ⟨i, rfl⟩ : ∃ q, i = q + 1 := ⟨i - 1, by omega⟩
            have hl : lv_has ls 9 [(0, .ref mo), (1, .int (zI (wN w : Int))), (2, .int (zI (24 * (wN w : Int)))), (3, .int (zI ((dfT w).length : Int))), (4, .int (zI 0)), (5, .int (zI (dfK w : Int))), (6, .int (zI ((i + 1 : Nat) : Int)))] := by exact hl
            refine lv_aload_n hx hb dX4_drifts_67 rfl (lv_at hl 0 rfl) ?_
            refine m_get 3 (by decide) (v := .ref (ad 3)) rfl hx hb hts hown hG (hts _ q3299) dX4_drifts_68 ?_
            refine lv_iload_n hx hb dX4_drifts_71 rfl (lv_at hl 2 rfl) ?_
            refine lv_iload hx hb dX4_drifts_72 (lv_at hl 6 rfl) ?_
            refine g_iadd hx hb dX4_drifts_74 ?_
            refine lv_aload_n hx hb dX4_drifts_75 rfl (lv_at hl 0 rfl) ?_
            refine m_get 3 (by decide) (v := .ref (ad 3)) rfl hx hb hts hown hG (hts _ q3299) dX4_drifts_76 ?_
            refine lv_iload_n hx hb dX4_drifts_79 rfl (lv_at hl 2 rfl) ?_
            refine lv_iload hx hb dX4_drifts_80 (lv_at hl 6 rfl) ?_
            refine g_iadd hx hb dX4_drifts_82 ?_
            refine lv_iconst (v := zI 1) hx hb dX4_drifts_83 (by decide +kernel) ?_
            refine g_isub hx hb dX4_drifts_84 ?_
            refine m_lald 3 rfl rfl (24 * wN w + i) (v := (g i)) ⟨by omega, by show _ < 408; omega⟩ (hd.2.2.2.2.1 i (by omega)) hx hb hG dX4_drifts_85 ?_
            refine m_last 3 rfl rfl (24 * wN w + (i + 1)) ⟨by omega, by show _ < 408; omega⟩ hx hb hG dX4_drifts_86 (fun H locs (hG : mW X mo ad (sL T 3 (24 * wN w + (i + 1)) (g i)) s H locs) => ?_)
            refine lv_iinc (v := zI (((i + 1 : Nat) : Int) - 1 : Int)) (lv' := [(6, .int (zI (((i + 1 : Nat) : Int) - 1 : Int))), (0, .ref mo), (1, .int (zI (wN w : Int))), (2, .int (zI (24 * (wN w : Int)))), (3, .int (zI ((dfT w).length : Int))), (4, .int (zI 0)), (5, .int (zI (dfK w : Int)))]) hx hb dX4_drifts_87 hl (k := 6) rfl ((zI_add _ _).trans (congrArg zI (by omega))) (by decide) rfl (fun ls hl => ?_)
            refine lv_goto (tgt := 60) hx hb dX4_drifts_90 (by decide) ?_
            have hl : lv_has ls 9 [(6, .int (zI (i : Int))), (0, .ref mo), (1, .int (zI (wN w : Int))), (2, .int (zI (24 * (wN w : Int)))), (3, .int (zI ((dfT w).length : Int))), (4, .int (zI 0)), (5, .int (zI (dfK w : Int)))] := by rw [show ((i + 1 : Nat) : Int) - 1 = (i : Int) by omega] at hl; exact hl
            exact ihI (i - dfK w) (by omega) H locs ls ⟨i, _, _, ⟨by omega, by omega, rfl, hd.row (by omega) _, fun j => by by_cases hj : j = i + 1; (subst hj; rw [va_up_self, if_pos (by omega), hg i, if_neg (by omega), show i + 1 - 1 = i by omega]); (rw [va_up_ne _ _ hj, hg j]; by_cases h1 : i + 1 < j ∧ j ≤ (dfT w).length; (rw [if_pos h1, if_pos (by omega)]); (rw [if_neg h1, if_neg (by omega)]))⟩, hG, (lv_sub hl [1, 2, 3, 4, 5, 6, 0] rfl)⟩
    · have hl : lv_has ls 9 [(5, .int (zI (dfK w : Int))), (4, .int (zI 1)), (3, .int (zI ((dfT w).length : Int))), (2, .int (zI (24 * (wN w : Int)))), (1, .int (zI (wN w : Int))), (0, .ref mo)] := by rw [hA] at hl; exact hl
      refine lv_iload hx hb dX4_drifts_46 (lv_at hl 1 rfl) ?_
      refine g_ne (tgt := 122) hx hb dX4_drifts_48 (by decide) (by decide) (fun hq => ?_) (fun hq => ?_)
      · refine lv_iload hx hb dX4_drifts_122 (lv_at hl 1 rfl) ?_
        refine lv_iconst (v := zI 1) hx hb dX4_drifts_124 (by decide +kernel) ?_
        refine g_cne (tgt := 180) hx hb dX4_drifts_125 (by decide) (by omega) (fun hq => ?_) (fun hq => ?_)
        · exfalso; omega
        · refine lv_iload_n hx hb dX4_drifts_128 rfl (lv_at hl 2 rfl) ?_
          refine g_le (tgt := 180) hx hb dX4_drifts_129 (by decide) (by omega) (fun h5 => ?_) (fun h5 => ?_)
          · refine lv_iload hx hb dX4_drifts_180 (lv_at hl 1 rfl) ?_
            refine lv_iconst (v := zI 2) hx hb dX4_drifts_182 (by decide +kernel) ?_
            refine g_cne (tgt := 244) hx hb dX4_drifts_183 (by decide) (by omega) (fun hq => ?_) (fun hq => ?_)
            · refine lv_iload hx hb dX4_drifts_244 (lv_at hl 1 rfl) ?_
              refine lv_iconst (v := zI 3) hx hb dX4_drifts_246 (by decide +kernel) ?_
              refine g_cne (tgt := 266) hx hb dX4_drifts_247 (by decide) (by omega) (fun hq => ?_) (fun hq => ?_)
              · refine lv_aload_n hx hb dX4_drifts_266 rfl (lv_at hl 5 rfl) ?_
                refine lv_iload_n hx hb dX4_drifts_267 rfl (lv_at hl 4 rfl) ?_
                refine lv_iconst (v := zI 1) hx hb dX4_drifts_268 (by decide +kernel) ?_
                refine g_isub hx hb dX4_drifts_269 ?_
                refine g_topz (y := oI (some (wN w - 1))) (by rw [oI_some]; omega) ?_
                obtain ⟨vv, hvv⟩ : ∃ vv, vv = dfV2 w := ⟨_, rfl⟩
                obtain ⟨tt, htt⟩ : ∃ tt, tt = dfT w := ⟨_, rfl⟩
                have hd : dS S U (wN w) vv (((dfT w).length : Int)) ((fun j => S.2.2 3 (24 * (wN w - 1) + j))) := by rw [hvv]; exact hd
                have hR : dfR w = (tt, vv) := by rw [hvv, htt]; unfold dfR; rw [if_neg (by omega), if_neg (by omega), if_neg (by omega), if_neg (by omega)]
                have htx2 : txOK (dfR w).1 := dfR_ok htx
                rw [hR] at htx2
                have htx2 : txOK tt := htx2
                have hlen : ((dfT w).length : Int) = (tt.length : Nat) := by rw [htt]; all_goals (exact rfl)
                have hrow : ∀ i9, i9 < tt.length → (fun j => S.2.2 3 (24 * (wN w - 1) + j)) i9 = lnZ (tt.getD i9 []) := by intro i9 hi; rw [htt] at hi ⊢; exact (hg0 i9 hi)
                refine m_ci (va_runV (As := [.int (zI (oI (some (wN w - 1))))]) (rest := []) ⟨hx, hb, hml, hown, hts⟩ (metX4_comesTo (w := wSeedTo w vv) (fo := some (wN w - 1)) (t := tt) (hd.o hO hK) (hK.seedTo vv) (show wN (wSeedTo w vv) < 16 from hn1.2) (fun f hf => by cases hf; show wN w - 1 < wN w; omega) htx2 (hd.2.2.1.1.trans hlen) (fun i9 hi => (hd.2.2.2.2.1 i9 (by have := htx2.1; omega)).trans (hrow i9 hi))) (cwV 1 hts (lw_V q3493 q3495 qs51 q102 q3496) rfl rfl rfl (by decide +kernel) ⟨Nat.le_of_ble_eq_true rfl, Nat.le_of_ble_eq_true rfl⟩) (m_preV hG) rfl rfl hl.1 rfl (lv_room (Nat.le_of_ble_eq_true rfl)) dX4_drifts_270 ⟨Nat.le_of_ble_eq_true rfl, Nat.le_of_ble_eq_true rfl⟩) hG (fun r_16 S_17 H locs hp hG => ?_)
                obtain ⟨rfl, hO9, hk14⟩ := hp
                have hG : mW X mo ad S_17 s H locs := hG
                refine lv_pop hx hb dX4_drifts_273 rfl ?_
                exact m_vret hx hb hr hlocks hG (⟨by unfold wDrift; rw [hR]; exact hO9, hd.kd hk14⟩) ⟨Nat.le_of_ble_eq_true rfl, Nat.le_of_ble_eq_true rfl⟩ dX4_drifts_274
              · exfalso; omega
            · exfalso; omega
          · refine lv_iload hx hb dX4_drifts_132 (lv_at hl 0 rfl) ?_
            refine lv_istore (lv' := [(6, .int (zI (dfK w : Int))), (5, .int (zI (dfK w : Int))), (4, .int (zI 1)), (3, .int (zI ((dfT w).length : Int))), (2, .int (zI (24 * (wN w : Int)))), (1, .int (zI (wN w : Int))), (0, .ref mo)]) hx hb dX4_drifts_134 hl (by decide) rfl (fun ls hl => ?_)
            refine g_loop (fun mz H locs ls => ∃ (i : Nat) (T : mS) (g : Nat → Int64), (dfK w ≤ i ∧ i < (dfT w).length ∧ mz = (dfT w).length - i ∧ dS S T (wN w) (dfV2 w) ((dfT w).length : Nat) g ∧ ∀ j, g j = if dfK w ≤ j ∧ j < i then (fun j => S.2.2 3 (24 * (wN w - 1) + j)) (j + 1) else (fun j => S.2.2 3 (24 * (wN w - 1) + j)) j) ∧ mW X mo ad T s H locs ∧ lv_has ls 9 [(0, .ref mo), (1, .int (zI (wN w : Int))), (2, .int (zI (24 * (wN w : Int)))), (3, .int (zI ((dfT w).length : Int))), (4, .int (zI 1)), (5, .int (zI (dfK w : Int))), (6, .int (zI (i : Int)))]) ((dfT w).length - dfK w) ⟨(dfK w), U, _, ⟨Nat.le_refl _, hkR.2 (by omega), rfl, hd, fun j => by rw [if_neg (by omega)]⟩, hG, (lv_sub hl [6, 5, 4, 3, 2, 1, 0] rfl)⟩ (fun mz ihR H locs ls hI => ?_)
            obtain ⟨i, T, g, ⟨hki, hin, hmz, hd, hg⟩, hG, hl⟩ := hI
            refine lv_iload hx hb dX4_drifts_136 (lv_at hl 6 rfl) ?_
            refine lv_iload_n hx hb dX4_drifts_138 rfl (lv_at hl 3 rfl) ?_
            refine lv_iconst (v := zI 1) hx hb dX4_drifts_139 (by decide +kernel) ?_
            refine g_isub hx hb dX4_drifts_140 ?_
            refine g_cge (tgt := 170) hx hb dX4_drifts_141 (by decide) (by omega) (fun h6 => ?_) (fun h6 => ?_)
            · have hik : i + 1 = (dfT w).length := by omega
              refine lv_aload_n hx hb dX4_drifts_170 rfl (lv_at hl 0 rfl) ?_
              refine m_get 2 (by decide) (v := .ref (ad 2)) rfl hx hb hts hown hG (hts _ q3298) dX4_drifts_171 ?_
              refine lv_iload_n hx hb dX4_drifts_174 rfl (lv_at hl 1 rfl) ?_
              refine lv_dup2_11 hx hb dX4_drifts_175 rfl rfl ?_
              refine m_iald 2 rfl rfl (by decide) (wN w) (v := ((dfT w).length : Int)) ⟨by omega, by show _ < 17; omega⟩ (show T.2.1 2 (wN w) = ((dfT w).length : Int) from hd.2.2.1.1) hx hb hG dX4_drifts_176 ?_
              refine lv_iconst (v := zI 1) hx hb dX4_drifts_177 (by decide +kernel) ?_
              refine g_isub hx hb dX4_drifts_178 ?_
              refine m_iast 2 rfl rfl (by decide) (wN w) ⟨by omega, by show _ < 17; omega⟩ hx hb hG dX4_drifts_179 (fun H locs (hG : mW X mo ad (sA T 2 (wN w) (((dfT w).length : Int) - 1)) s H locs) => ?_)
              have hd := hd.len (((dfT w).length : Int) - 1)
              refine lv_iload hx hb dX4_drifts_180 (lv_at hl 4 rfl) ?_
              refine lv_iconst (v := zI 2) hx hb dX4_drifts_182 (by decide +kernel) ?_
              refine g_cne (tgt := 244) hx hb dX4_drifts_183 (by decide) (by omega) (fun hq => ?_) (fun hq => ?_)
              · refine lv_iload hx hb dX4_drifts_244 (lv_at hl 4 rfl) ?_
                refine lv_iconst (v := zI 3) hx hb dX4_drifts_246 (by decide +kernel) ?_
                refine g_cne (tgt := 266) hx hb dX4_drifts_247 (by decide) (by omega) (fun hq => ?_) (fun hq => ?_)
                · obtain ⟨U2, hU2⟩ : ∃ U2, U2 = (sA T 2 (wN w) (((dfT w).length : Int) - 1)) := ⟨_, rfl⟩
                  rw [← hU2] at hd hG
                  refine lv_aload_n hx hb dX4_drifts_266 rfl (lv_at hl 0 rfl) ?_
                  refine lv_iload_n hx hb dX4_drifts_267 rfl (lv_at hl 1 rfl) ?_
                  refine lv_iconst (v := zI 1) hx hb dX4_drifts_268 (by decide +kernel) ?_
                  refine g_isub hx hb dX4_drifts_269 ?_
                  refine g_topz (y := oI (some (wN w - 1))) (by rw [oI_some]; omega) ?_
                  obtain ⟨vv, hvv⟩ : ∃ vv, vv = dfV2 w := ⟨_, rfl⟩
                  obtain ⟨tt, htt⟩ : ∃ tt, tt = rmT (dfT w) (dfK w) := ⟨_, rfl⟩
                  have hd : dS S U2 (wN w) vv (((dfT w).length : Int) - 1) (g) := by rw [hvv]; exact hd
                  have hR : dfR w = (tt, vv) := by rw [hvv, htt]; unfold dfR; rw [if_neg (by omega), if_pos (by omega)]
                  have htx2 : txOK (dfR w).1 := dfR_ok htx
                  rw [hR] at htx2
                  have htx2 : txOK tt := htx2
                  have hlen : ((dfT w).length : Int) - 1 = (tt.length : Nat) := by rw [htt]; all_goals (exact (by rw [rmT_len (by omega)]; omega))
                  have hrow : ∀ i9, i9 < tt.length → g i9 = lnZ (tt.getD i9 []) := by intro i9 hi; rw [htt] at hi ⊢; exact (by rw [rmT_len (by omega)] at hi; rw [rmT_get (by omega), hg i9]; by_cases h9 : i9 < dfK w; (rw [if_neg (by omega), if_pos h9]; exact hg0 _ (by omega)); (rw [if_pos (by omega), if_neg h9]; exact hg0 _ (by omega)))
                  refine m_ci (va_runV (As := [.int (zI (oI (some (wN w - 1))))]) (rest := []) ⟨hx, hb, hml, hown, hts⟩ (metX4_comesTo (w := wSeedTo w vv) (fo := some (wN w - 1)) (t := tt) (hd.o hO hK) (hK.seedTo vv) (show wN (wSeedTo w vv) < 16 from hn1.2) (fun f hf => by cases hf; show wN w - 1 < wN w; omega) htx2 (hd.2.2.1.1.trans hlen) (fun i9 hi => (hd.2.2.2.2.1 i9 (by have := htx2.1; omega)).trans (hrow i9 hi))) (cwV 1 hts (lw_V q3493 q3495 qs51 q102 q3496) rfl rfl rfl (by decide +kernel) ⟨Nat.le_of_ble_eq_true rfl, Nat.le_of_ble_eq_true rfl⟩) (m_preV hG) rfl rfl hl.1 rfl (lv_room (Nat.le_of_ble_eq_true rfl)) dX4_drifts_270 ⟨Nat.le_of_ble_eq_true rfl, Nat.le_of_ble_eq_true rfl⟩) hG (fun r_18 S_19 H locs hp hG => ?_)
                  obtain ⟨rfl, hO9, hk14⟩ := hp
                  have hG : mW X mo ad S_19 s H locs := hG
                  refine lv_pop hx hb dX4_drifts_273 rfl ?_
                  exact m_vret hx hb hr hlocks hG (⟨by unfold wDrift; rw [hR]; exact hO9, hd.kd hk14⟩) ⟨Nat.le_of_ble_eq_true rfl, Nat.le_of_ble_eq_true rfl⟩ dX4_drifts_274
                · exfalso; omega
              · exfalso; omega
            · refine lv_aload_n hx hb dX4_drifts_144 rfl (lv_at hl 0 rfl) ?_
              refine m_get 3 (by decide) (v := .ref (ad 3)) rfl hx hb hts hown hG (hts _ q3299) dX4_drifts_145 ?_
              refine lv_iload_n hx hb dX4_drifts_148 rfl (lv_at hl 2 rfl) ?_
              refine lv_iload hx hb dX4_drifts_149 (lv_at hl 6 rfl) ?_
              refine g_iadd hx hb dX4_drifts_151 ?_
              refine lv_aload_n hx hb dX4_drifts_152 rfl (lv_at hl 0 rfl) ?_
              refine m_get 3 (by decide) (v := .ref (ad 3)) rfl hx hb hts hown hG (hts _ q3299) dX4_drifts_153 ?_
              refine lv_iload_n hx hb dX4_drifts_156 rfl (lv_at hl 2 rfl) ?_
              refine lv_iload hx hb dX4_drifts_157 (lv_at hl 6 rfl) ?_
              refine g_iadd hx hb dX4_drifts_159 ?_
              refine lv_iconst (v := zI 1) hx hb dX4_drifts_160 (by decide +kernel) ?_
              refine g_iadd hx hb dX4_drifts_161 ?_
              refine m_lald 3 rfl rfl (24 * wN w + (i + 1)) (v := (g (i + 1))) ⟨by omega, by show _ < 408; omega⟩ (hd.2.2.2.2.1 (i + 1) (by omega)) hx hb hG dX4_drifts_162 ?_
              refine m_last 3 rfl rfl (24 * wN w + i) ⟨by omega, by show _ < 408; omega⟩ hx hb hG dX4_drifts_163 (fun H locs (hG : mW X mo ad (sL T 3 (24 * wN w + i) (g (i + 1))) s H locs) => ?_)
              refine lv_iinc (v := zI ((i : Int) + 1 : Int)) (lv' := [(6, .int (zI ((i : Int) + 1 : Int))), (0, .ref mo), (1, .int (zI (wN w : Int))), (2, .int (zI (24 * (wN w : Int)))), (3, .int (zI ((dfT w).length : Int))), (4, .int (zI 1)), (5, .int (zI (dfK w : Int)))]) hx hb dX4_drifts_164 hl (k := 6) rfl ((zI_add _ _).trans (congrArg zI (by omega))) (by decide) rfl (fun ls hl => ?_)
              refine lv_goto (tgt := 136) hx hb dX4_drifts_167 (by decide) ?_
              have hl : lv_has ls 9 [(6, .int (zI ((i + 1 : Nat) : Int))), (0, .ref mo), (1, .int (zI (wN w : Int))), (2, .int (zI (24 * (wN w : Int)))), (3, .int (zI ((dfT w).length : Int))), (4, .int (zI 1)), (5, .int (zI (dfK w : Int)))] := by exact hl
              exact ihR ((dfT w).length - (i + 1)) (by omega) H locs ls ⟨(i + 1), _, _, ⟨by omega, by omega, rfl, hd.row (by omega) _, fun j => by by_cases hj : j = i; (subst hj; rw [va_up_self, if_pos (by omega), hg (j + 1), if_neg (by omega)]); (rw [va_up_ne _ _ hj, hg j]; by_cases h1 : dfK w ≤ j ∧ j < i; (rw [if_pos h1, if_pos (by omega)]); (rw [if_neg h1, if_neg (by omega)]))⟩, hG, (lv_sub hl [1, 2, 3, 4, 5, 6, 0] rfl)⟩
      · exfalso; omega
    · have hl : lv_has ls 9 [(5, .int (zI (dfK w : Int))), (4, .int (zI 2)), (3, .int (zI ((dfT w).length : Int))), (2, .int (zI (24 * (wN w : Int)))), (1, .int (zI (wN w : Int))), (0, .ref mo)] := by rw [hA] at hl; exact hl
      refine lv_iload hx hb dX4_drifts_46 (lv_at hl 1 rfl) ?_
      refine g_ne (tgt := 122) hx hb dX4_drifts_48 (by decide) (by decide) (fun hq => ?_) (fun hq => ?_)
      · refine lv_iload hx hb dX4_drifts_122 (lv_at hl 1 rfl) ?_
        refine lv_iconst (v := zI 1) hx hb dX4_drifts_124 (by decide +kernel) ?_
        refine g_cne (tgt := 180) hx hb dX4_drifts_125 (by decide) (by omega) (fun hq => ?_) (fun hq => ?_)
        · refine lv_iload hx hb dX4_drifts_180 (lv_at hl 1 rfl) ?_
          refine lv_iconst (v := zI 2) hx hb dX4_drifts_182 (by decide +kernel) ?_
          refine g_cne (tgt := 244) hx hb dX4_drifts_183 (by decide) (by omega) (fun hq => ?_) (fun hq => ?_)
          · exfalso; omega
          · refine lv_iload_n hx hb dX4_drifts_186 rfl (lv_at hl 2 rfl) ?_
            refine g_le (tgt := 244) hx hb dX4_drifts_187 (by decide) (by omega) (fun h5 => ?_) (fun h5 => ?_)
            · refine lv_iload hx hb dX4_drifts_244 (lv_at hl 1 rfl) ?_
              refine lv_iconst (v := zI 3) hx hb dX4_drifts_246 (by decide +kernel) ?_
              refine g_cne (tgt := 266) hx hb dX4_drifts_247 (by decide) (by omega) (fun hq => ?_) (fun hq => ?_)
              · refine lv_aload_n hx hb dX4_drifts_266 rfl (lv_at hl 5 rfl) ?_
                refine lv_iload_n hx hb dX4_drifts_267 rfl (lv_at hl 4 rfl) ?_
                refine lv_iconst (v := zI 1) hx hb dX4_drifts_268 (by decide +kernel) ?_
                refine g_isub hx hb dX4_drifts_269 ?_
                refine g_topz (y := oI (some (wN w - 1))) (by rw [oI_some]; omega) ?_
                obtain ⟨vv, hvv⟩ : ∃ vv, vv = dfV2 w := ⟨_, rfl⟩
                obtain ⟨tt, htt⟩ : ∃ tt, tt = dfT w := ⟨_, rfl⟩
                have hd : dS S U (wN w) vv (((dfT w).length : Int)) ((fun j => S.2.2 3 (24 * (wN w - 1) + j))) := by rw [hvv]; exact hd
                have hR : dfR w = (tt, vv) := by rw [hvv, htt]; unfold dfR; rw [if_neg (by omega), if_neg (by omega), if_neg (by omega), if_neg (by omega)]
                have htx2 : txOK (dfR w).1 := dfR_ok htx
                rw [hR] at htx2
                have htx2 : txOK tt := htx2
                have hlen : ((dfT w).length : Int) = (tt.length : Nat) := by rw [htt]; all_goals (exact rfl)
                have hrow : ∀ i9, i9 < tt.length → (fun j => S.2.2 3 (24 * (wN w - 1) + j)) i9 = lnZ (tt.getD i9 []) := by intro i9 hi; rw [htt] at hi ⊢; exact (hg0 i9 hi)
                refine m_ci (va_runV (As := [.int (zI (oI (some (wN w - 1))))]) (rest := []) ⟨hx, hb, hml, hown, hts⟩ (metX4_comesTo (w := wSeedTo w vv) (fo := some (wN w - 1)) (t := tt) (hd.o hO hK) (hK.seedTo vv) (show wN (wSeedTo w vv) < 16 from hn1.2) (fun f hf => by cases hf; show wN w - 1 < wN w; omega) htx2 (hd.2.2.1.1.trans hlen) (fun i9 hi => (hd.2.2.2.2.1 i9 (by have := htx2.1; omega)).trans (hrow i9 hi))) (cwV 1 hts (lw_V q3493 q3495 qs51 q102 q3496) rfl rfl rfl (by decide +kernel) ⟨Nat.le_of_ble_eq_true rfl, Nat.le_of_ble_eq_true rfl⟩) (m_preV hG) rfl rfl hl.1 rfl (lv_room (Nat.le_of_ble_eq_true rfl)) dX4_drifts_270 ⟨Nat.le_of_ble_eq_true rfl, Nat.le_of_ble_eq_true rfl⟩) hG (fun r_20 S_21 H locs hp hG => ?_)
                obtain ⟨rfl, hO9, hk14⟩ := hp
                have hG : mW X mo ad S_21 s H locs := hG
                refine lv_pop hx hb dX4_drifts_273 rfl ?_
                exact m_vret hx hb hr hlocks hG (⟨by unfold wDrift; rw [hR]; exact hO9, hd.kd hk14⟩) ⟨Nat.le_of_ble_eq_true rfl, Nat.le_of_ble_eq_true rfl⟩ dX4_drifts_274
              · exfalso; omega
            · refine lv_aload_n hx hb dX4_drifts_190 rfl (lv_at hl 5 rfl) ?_
              refine m_get 3 (by decide) (v := .ref (ad 3)) rfl hx hb hts hown hG (hts _ q3299) dX4_drifts_191 ?_
              refine lv_iload_n hx hb dX4_drifts_194 rfl (lv_at hl 3 rfl) ?_
              refine lv_iload hx hb dX4_drifts_195 (lv_at hl 0 rfl) ?_
              refine g_iadd hx hb dX4_drifts_197 ?_
              refine m_lald 3 rfl rfl (24 * wN w + dfK w) (v := ((fun j => S.2.2 3 (24 * (wN w - 1) + j)) (dfK w))) ⟨by omega, by show _ < 408; omega⟩ (hd.2.2.2.2.1 (dfK w) (by omega)) hx hb hG dX4_drifts_198 ?_
              refine lv_lstore (lv' := [(6, .long ((fun j => S.2.2 3 (24 * (wN w - 1) + j)) (dfK w))), (5, .int (zI (dfK w : Int))), (4, .int (zI 2)), (3, .int (zI ((dfT w).length : Int))), (2, .int (zI (24 * (wN w : Int)))), (1, .int (zI (wN w : Int))), (0, .ref mo)]) hx hb dX4_drifts_199 hl (by decide) rfl (fun ls hl => ?_)
              refine lv_iload hx hb dX4_drifts_201 (lv_at hl 1 rfl) ?_
              refine lv_istore (lv' := [(8, .int (zI (dfK w : Int))), (6, .long ((fun j => S.2.2 3 (24 * (wN w - 1) + j)) (dfK w))), (5, .int (zI (dfK w : Int))), (4, .int (zI 2)), (3, .int (zI ((dfT w).length : Int))), (2, .int (zI (24 * (wN w : Int)))), (1, .int (zI (wN w : Int))), (0, .ref mo)]) hx hb dX4_drifts_203 hl (by decide) rfl (fun ls hl => ?_)
              refine g_loop (fun mz H locs ls => ∃ (i : Nat) (T : mS) (g : Nat → Int64), (i ≤ dfK w ∧ mz = i ∧ dS S T (wN w) (dfV2 w) ((dfT w).length : Nat) g ∧ ∀ j, g j = if i < j ∧ j ≤ dfK w then (fun j => S.2.2 3 (24 * (wN w - 1) + j)) (j - 1) else (fun j => S.2.2 3 (24 * (wN w - 1) + j)) j) ∧ mW X mo ad T s H locs ∧ lv_has ls 9 [(0, .ref mo), (1, .int (zI (wN w : Int))), (2, .int (zI (24 * (wN w : Int)))), (3, .int (zI ((dfT w).length : Int))), (4, .int (zI 2)), (5, .int (zI (dfK w : Int))), (6, .long ((fun j => S.2.2 3 (24 * (wN w - 1) + j)) (dfK w))), (8, .int (zI (i : Int)))]) (dfK w) ⟨(dfK w), U, _, ⟨Nat.le_refl _, rfl, hd, fun j => by rw [if_neg (by omega)]⟩, hG, (lv_sub hl [7, 6, 5, 4, 3, 2, 1, 0] rfl)⟩ (fun mz ihM H locs ls hI => ?_)
              obtain ⟨i, T, g, ⟨hki, hmz, hd, hg⟩, hG, hl⟩ := hI
              refine lv_iload hx hb dX4_drifts_205 (lv_at hl 7 rfl) ?_
              refine g_le (tgt := 236) hx hb dX4_drifts_207 (by decide) (by omega) (fun h6 => ?_) (fun h6 => ?_)
              · have hik : i = 0 := by omega
                subst hik
                refine lv_aload_n hx hb dX4_drifts_236 rfl (lv_at hl 0 rfl) ?_
                refine m_get 3 (by decide) (v := .ref (ad 3)) rfl hx hb hts hown hG (hts _ q3299) dX4_drifts_237 ?_
                refine lv_iload_n hx hb dX4_drifts_240 rfl (lv_at hl 2 rfl) ?_
                refine lv_lload hx hb dX4_drifts_241 (lv_at hl 6 rfl) ?_
                refine m_last 3 rfl rfl (24 * wN w + 0) ⟨by omega, by show _ < 408; omega⟩ hx hb hG dX4_drifts_243 (fun H locs (hG : mW X mo ad (sL T 3 (24 * wN w + 0) ((fun j => S.2.2 3 (24 * (wN w - 1) + j)) (dfK w))) s H locs) => ?_)
                have hd := hd.row (j := 0) (by omega) ((fun j => S.2.2 3 (24 * (wN w - 1) + j)) (dfK w))
                refine lv_iload hx hb dX4_drifts_244 (lv_at hl 4 rfl) ?_
                refine lv_iconst (v := zI 3) hx hb dX4_drifts_246 (by decide +kernel) ?_
                refine g_cne (tgt := 266) hx hb dX4_drifts_247 (by decide) (by omega) (fun hq => ?_) (fun hq => ?_)
                · obtain ⟨U2, hU2⟩ : ∃ U2, U2 = (sL T 3 (24 * wN w + 0) ((fun j => S.2.2 3 (24 * (wN w - 1) + j)) (dfK w))) := ⟨_, rfl⟩
                  rw [← hU2] at hd hG
                  refine lv_aload_n hx hb dX4_drifts_266 rfl (lv_at hl 0 rfl) ?_
                  refine lv_iload_n hx hb dX4_drifts_267 rfl (lv_at hl 1 rfl) ?_
                  refine lv_iconst (v := zI 1) hx hb dX4_drifts_268 (by decide +kernel) ?_
                  refine g_isub hx hb dX4_drifts_269 ?_
                  refine g_topz (y := oI (some (wN w - 1))) (by rw [oI_some]; omega) ?_
                  obtain ⟨vv, hvv⟩ : ∃ vv, vv = dfV2 w := ⟨_, rfl⟩
                  obtain ⟨tt, htt⟩ : ∃ tt, tt = (dfT w).getD (dfK w) [] :: rmT (dfT w) (dfK w) := ⟨_, rfl⟩
                  have hd : dS S U2 (wN w) vv (((dfT w).length : Int)) (va_up g 0 ((fun j => S.2.2 3 (24 * (wN w - 1) + j)) (dfK w))) := by rw [hvv]; exact hd
                  have hR : dfR w = (tt, vv) := by rw [hvv, htt]; unfold dfR; rw [if_neg (by omega), if_neg (by omega), if_pos (by omega)]
                  have htx2 : txOK (dfR w).1 := dfR_ok htx
                  rw [hR] at htx2
                  have htx2 : txOK tt := htx2
                  have hlen : ((dfT w).length : Int) = (tt.length : Nat) := by rw [htt]; all_goals (exact (by rw [List.length_cons, rmT_len (by omega)]; omega))
                  have hrow : ∀ i9, i9 < tt.length → va_up g 0 ((fun j => S.2.2 3 (24 * (wN w - 1) + j)) (dfK w)) i9 = lnZ (tt.getD i9 []) := by intro i9 hi; rw [htt] at hi ⊢; exact (by rw [List.length_cons, rmT_len (by omega)] at hi; exact frRow (by omega) hg hg0 i9 (by omega))
                  refine m_ci (va_runV (As := [.int (zI (oI (some (wN w - 1))))]) (rest := []) ⟨hx, hb, hml, hown, hts⟩ (metX4_comesTo (w := wSeedTo w vv) (fo := some (wN w - 1)) (t := tt) (hd.o hO hK) (hK.seedTo vv) (show wN (wSeedTo w vv) < 16 from hn1.2) (fun f hf => by cases hf; show wN w - 1 < wN w; omega) htx2 (hd.2.2.1.1.trans hlen) (fun i9 hi => (hd.2.2.2.2.1 i9 (by have := htx2.1; omega)).trans (hrow i9 hi))) (cwV 1 hts (lw_V q3493 q3495 qs51 q102 q3496) rfl rfl rfl (by decide +kernel) ⟨Nat.le_of_ble_eq_true rfl, Nat.le_of_ble_eq_true rfl⟩) (m_preV hG) rfl rfl hl.1 rfl (lv_room (Nat.le_of_ble_eq_true rfl)) dX4_drifts_270 ⟨Nat.le_of_ble_eq_true rfl, Nat.le_of_ble_eq_true rfl⟩) hG (fun r_22 S_23 H locs hp hG => ?_)
                  obtain ⟨rfl, hO9, hk14⟩ := hp
                  have hG : mW X mo ad S_23 s H locs := hG
                  refine lv_pop hx hb dX4_drifts_273 rfl ?_
                  exact m_vret hx hb hr hlocks hG (⟨by unfold wDrift; rw [hR]; exact hO9, hd.kd hk14⟩) ⟨Nat.le_of_ble_eq_true rfl, Nat.le_of_ble_eq_true rfl⟩ dX4_drifts_274
                · exfalso; omega
              · obtain ⟨i, rfl⟩ : ∃ q, i = q + 1 := ⟨i - 1, by omega⟩
                have hl : lv_has ls 9 [(0, .ref mo), (1, .int (zI (wN w : Int))), (2, .int (zI (24 * (wN w : Int)))), (3, .int (zI ((dfT w).length : Int))), (4, .int (zI 2)), (5, .int (zI (dfK w : Int))), (6, .long ((fun j => S.2.2 3 (24 * (wN w - 1) + j)) (dfK w))), (8, .int (zI ((i + 1 : Nat) : Int)))] := by exact hl
                refine lv_aload_n hx hb dX4_drifts_210 rfl (lv_at hl 0 rfl) ?_
                refine m_get 3 (by decide) (v := .ref (ad 3)) rfl hx hb hts hown hG (hts _ q3299) dX4_drifts_211 ?_
                refine lv_iload_n hx hb dX4_drifts_214 rfl (lv_at hl 2 rfl) ?_
                refine lv_iload hx hb dX4_drifts_215 (lv_at hl 7 rfl) ?_
                refine g_iadd hx hb dX4_drifts_217 ?_
                refine lv_aload_n hx hb dX4_drifts_218 rfl (lv_at hl 0 rfl) ?_
                refine m_get 3 (by decide) (v := .ref (ad 3)) rfl hx hb hts hown hG (hts _ q3299) dX4_drifts_219 ?_
                refine lv_iload_n hx hb dX4_drifts_222 rfl (lv_at hl 2 rfl) ?_
                refine lv_iload hx hb dX4_drifts_223 (lv_at hl 7 rfl) ?_
                refine g_iadd hx hb dX4_drifts_225 ?_
                refine lv_iconst (v := zI 1) hx hb dX4_drifts_226 (by decide +kernel) ?_
                refine g_isub hx hb dX4_drifts_227 ?_
                refine m_lald 3 rfl rfl (24 * wN w + i) (v := (g i)) ⟨by omega, by show _ < 408; omega⟩ (hd.2.2.2.2.1 i (by omega)) hx hb hG dX4_drifts_228 ?_
                refine m_last 3 rfl rfl (24 * wN w + (i + 1)) ⟨by omega, by show _ < 408; omega⟩ hx hb hG dX4_drifts_229 (fun H locs (hG : mW X mo ad (sL T 3 (24 * wN w + (i + 1)) (g i)) s H locs) => ?_)
                refine lv_iinc (v := zI (((i + 1 : Nat) : Int) - 1 : Int)) (lv' := [(8, .int (zI (((i + 1 : Nat) : Int) - 1 : Int))), (0, .ref mo), (1, .int (zI (wN w : Int))), (2, .int (zI (24 * (wN w : Int)))), (3, .int (zI ((dfT w).length : Int))), (4, .int (zI 2)), (5, .int (zI (dfK w : Int))), (6, .long ((fun j => S.2.2 3 (24 * (wN w - 1) + j)) (dfK w)))]) hx hb dX4_drifts_230 hl (k := 7) rfl ((zI_add _ _).trans (congrArg zI (by omega))) (by decide) rfl (fun ls hl => ?_)
                refine lv_goto (tgt := 205) hx hb dX4_drifts_233 (by decide) ?_
                have hl : lv_has ls 9 [(8, .int (zI (i : Int))), (0, .ref mo), (1, .int (zI (wN w : Int))), (2, .int (zI (24 * (wN w : Int)))), (3, .int (zI ((dfT w).length : Int))), (4, .int (zI 2)), (5, .int (zI (dfK w : Int))), (6, .long ((fun j => S.2.2 3 (24 * (wN w - 1) + j)) (dfK w)))] := by rw [show ((i + 1 : Nat) : Int) - 1 = (i : Int) by omega] at hl; exact hl
                exact ihM i (by omega) H locs ls ⟨i, _, _, ⟨by omega, rfl, hd.row (by omega) _, fun j => by by_cases hj : j = i + 1; (subst hj; rw [va_up_self, if_pos (by omega), hg i, if_neg (by omega), show i + 1 - 1 = i by omega]); (rw [va_up_ne _ _ hj, hg j]; by_cases h1 : i + 1 < j ∧ j ≤ dfK w; (rw [if_pos h1, if_pos (by omega)]); (rw [if_neg h1, if_neg (by omega)]))⟩, hG, (lv_sub hl [1, 2, 3, 4, 5, 6, 7, 0] rfl)⟩
        · exfalso; omega
      · exfalso; omega
    · have hl : lv_has ls 9 [(5, .int (zI (dfK w : Int))), (4, .int (zI 3)), (3, .int (zI ((dfT w).length : Int))), (2, .int (zI (24 * (wN w : Int)))), (1, .int (zI (wN w : Int))), (0, .ref mo)] := by rw [hA] at hl; exact hl
      refine lv_iload hx hb dX4_drifts_46 (lv_at hl 1 rfl) ?_
      refine g_ne (tgt := 122) hx hb dX4_drifts_48 (by decide) (by decide) (fun hq => ?_) (fun hq => ?_)
      · refine lv_iload hx hb dX4_drifts_122 (lv_at hl 1 rfl) ?_
        refine lv_iconst (v := zI 1) hx hb dX4_drifts_124 (by decide +kernel) ?_
        refine g_cne (tgt := 180) hx hb dX4_drifts_125 (by decide) (by omega) (fun hq => ?_) (fun hq => ?_)
        · refine lv_iload hx hb dX4_drifts_180 (lv_at hl 1 rfl) ?_
          refine lv_iconst (v := zI 2) hx hb dX4_drifts_182 (by decide +kernel) ?_
          refine g_cne (tgt := 244) hx hb dX4_drifts_183 (by decide) (by omega) (fun hq => ?_) (fun hq => ?_)
          · refine lv_iload hx hb dX4_drifts_244 (lv_at hl 1 rfl) ?_
            refine lv_iconst (v := zI 3) hx hb dX4_drifts_246 (by decide +kernel) ?_
            refine g_cne (tgt := 266) hx hb dX4_drifts_247 (by decide) (by omega) (fun hq => ?_) (fun hq => ?_)
            · exfalso; omega
            · refine lv_iload_n hx hb dX4_drifts_250 rfl (lv_at hl 2 rfl) ?_
              refine g_le (tgt := 266) hx hb dX4_drifts_251 (by decide) (by omega) (fun h5 => ?_) (fun h5 => ?_)
              · refine lv_aload_n hx hb dX4_drifts_266 rfl (lv_at hl 5 rfl) ?_
                refine lv_iload_n hx hb dX4_drifts_267 rfl (lv_at hl 4 rfl) ?_
                refine lv_iconst (v := zI 1) hx hb dX4_drifts_268 (by decide +kernel) ?_
                refine g_isub hx hb dX4_drifts_269 ?_
                refine g_topz (y := oI (some (wN w - 1))) (by rw [oI_some]; omega) ?_
                obtain ⟨vv, hvv⟩ : ∃ vv, vv = dfV2 w := ⟨_, rfl⟩
                obtain ⟨tt, htt⟩ : ∃ tt, tt = dfT w := ⟨_, rfl⟩
                have hd : dS S U (wN w) vv (((dfT w).length : Int)) ((fun j => S.2.2 3 (24 * (wN w - 1) + j))) := by rw [hvv]; exact hd
                have hR : dfR w = (tt, vv) := by rw [hvv, htt]; unfold dfR; rw [if_neg (by omega), if_neg (by omega), if_neg (by omega), if_neg (by omega)]
                have htx2 : txOK (dfR w).1 := dfR_ok htx
                rw [hR] at htx2
                have htx2 : txOK tt := htx2
                have hlen : ((dfT w).length : Int) = (tt.length : Nat) := by rw [htt]; all_goals (exact rfl)
                have hrow : ∀ i9, i9 < tt.length → (fun j => S.2.2 3 (24 * (wN w - 1) + j)) i9 = lnZ (tt.getD i9 []) := by intro i9 hi; rw [htt] at hi ⊢; exact (hg0 i9 hi)
                refine m_ci (va_runV (As := [.int (zI (oI (some (wN w - 1))))]) (rest := []) ⟨hx, hb, hml, hown, hts⟩ (metX4_comesTo (w := wSeedTo w vv) (fo := some (wN w - 1)) (t := tt) (hd.o hO hK) (hK.seedTo vv) (show wN (wSeedTo w vv) < 16 from hn1.2) (fun f hf => by cases hf; show wN w - 1 < wN w; omega) htx2 (hd.2.2.1.1.trans hlen) (fun i9 hi => (hd.2.2.2.2.1 i9 (by have := htx2.1; omega)).trans (hrow i9 hi))) (cwV 1 hts (lw_V q3493 q3495 qs51 q102 q3496) rfl rfl rfl (by decide +kernel) ⟨Nat.le_of_ble_eq_true rfl, Nat.le_of_ble_eq_true rfl⟩) (m_preV hG) rfl rfl hl.1 rfl (lv_room (Nat.le_of_ble_eq_true rfl)) dX4_drifts_270 ⟨Nat.le_of_ble_eq_true rfl, Nat.le_of_ble_eq_true rfl⟩) hG (fun r_24 S_25 H locs hp hG => ?_)
                obtain ⟨rfl, hO9, hk14⟩ := hp
                have hG : mW X mo ad S_25 s H locs := hG
                refine lv_pop hx hb dX4_drifts_273 rfl ?_
                exact m_vret hx hb hr hlocks hG (⟨by unfold wDrift; rw [hR]; exact hO9, hd.kd hk14⟩) ⟨Nat.le_of_ble_eq_true rfl, Nat.le_of_ble_eq_true rfl⟩ dX4_drifts_274
              · refine lv_aload_n hx hb dX4_drifts_254 rfl (lv_at hl 5 rfl) ?_
                refine m_get 3 (by decide) (v := .ref (ad 3)) rfl hx hb hts hown hG (hts _ q3299) dX4_drifts_255 ?_
                refine lv_iload_n hx hb dX4_drifts_258 rfl (lv_at hl 3 rfl) ?_
                refine lv_iload hx hb dX4_drifts_259 (lv_at hl 0 rfl) ?_
                refine g_iadd hx hb dX4_drifts_261 ?_
                refine lv_ldc2 (v := 122) hx hb hown (hts _ q3701) dX4_drifts_262 ?_
                refine m_last 3 rfl rfl (24 * wN w + dfK w) ⟨by omega, by show _ < 408; omega⟩ hx hb hG dX4_drifts_265 (fun H locs (hG : mW X mo ad (sL U 3 (24 * wN w + dfK w) (122 : Int64)) s H locs) => ?_)
                have hd := hd.row (j := dfK w) (by omega) 122
                obtain ⟨U2, hU2⟩ : ∃ U2, U2 = (sL U 3 (24 * wN w + dfK w) (122 : Int64)) := ⟨_, rfl⟩
                rw [← hU2] at hd hG
                refine lv_aload_n hx hb dX4_drifts_266 rfl (lv_at hl 5 rfl) ?_
                refine lv_iload_n hx hb dX4_drifts_267 rfl (lv_at hl 4 rfl) ?_
                refine lv_iconst (v := zI 1) hx hb dX4_drifts_268 (by decide +kernel) ?_
                refine g_isub hx hb dX4_drifts_269 ?_
                refine g_topz (y := oI (some (wN w - 1))) (by rw [oI_some]; omega) ?_
                obtain ⟨vv, hvv⟩ : ∃ vv, vv = dfV2 w := ⟨_, rfl⟩
                obtain ⟨tt, htt⟩ : ∃ tt, tt = (dfT w).set (dfK w) [122] := ⟨_, rfl⟩
                have hd : dS S U2 (wN w) vv (((dfT w).length : Int)) (va_up (fun j => S.2.2 3 (24 * (wN w - 1) + j)) (dfK w) 122) := by rw [hvv]; exact hd
                have hR : dfR w = (tt, vv) := by rw [hvv, htt]; unfold dfR; rw [if_neg (by omega), if_neg (by omega), if_neg (by omega), if_pos (by omega)]
                have htx2 : txOK (dfR w).1 := dfR_ok htx
                rw [hR] at htx2
                have htx2 : txOK tt := htx2
                have hlen : ((dfT w).length : Int) = (tt.length : Nat) := by rw [htt]; all_goals (exact (by rw [List.length_set]))
                have hrow : ∀ i9, i9 < tt.length → va_up (fun j => S.2.2 3 (24 * (wN w - 1) + j)) (dfK w) 122 i9 = lnZ (tt.getD i9 []) := by intro i9 hi; rw [htt] at hi ⊢; exact (by rw [List.length_set] at hi; rw [gD_set _ _ _ _ (hkR.2 (by omega))]; by_cases h9 : i9 = dfK w; (subst h9; rw [va_up_self, if_pos rfl]; rfl); (rw [va_up_ne _ _ h9, if_neg h9]; exact hg0 _ hi))
                refine m_ci (va_runV (As := [.int (zI (oI (some (wN w - 1))))]) (rest := []) ⟨hx, hb, hml, hown, hts⟩ (metX4_comesTo (w := wSeedTo w vv) (fo := some (wN w - 1)) (t := tt) (hd.o hO hK) (hK.seedTo vv) (show wN (wSeedTo w vv) < 16 from hn1.2) (fun f hf => by cases hf; show wN w - 1 < wN w; omega) htx2 (hd.2.2.1.1.trans hlen) (fun i9 hi => (hd.2.2.2.2.1 i9 (by have := htx2.1; omega)).trans (hrow i9 hi))) (cwV 1 hts (lw_V q3493 q3495 qs51 q102 q3496) rfl rfl rfl (by decide +kernel) ⟨Nat.le_of_ble_eq_true rfl, Nat.le_of_ble_eq_true rfl⟩) (m_preV hG) rfl rfl hl.1 rfl (lv_room (Nat.le_of_ble_eq_true rfl)) dX4_drifts_270 ⟨Nat.le_of_ble_eq_true rfl, Nat.le_of_ble_eq_true rfl⟩) hG (fun r_26 S_27 H locs hp hG => ?_)
                obtain ⟨rfl, hO9, hk14⟩ := hp
                have hG : mW X mo ad S_27 s H locs := hG
                refine lv_pop hx hb dX4_drifts_273 rfl ?_
                exact m_vret hx hb hr hlocks hG (⟨by unfold wDrift; rw [hR]; exact hO9, hd.kd hk14⟩) ⟨Nat.le_of_ble_eq_true rfl, Nat.le_of_ble_eq_true rfl⟩ dX4_drifts_274
          · exfalso; omega
        · exfalso; omega
      · exfalso; omega
  · refine lv_iconst (v := zI 0) hx hb dX4_drifts_35 (by decide +kernel) ?_
    refine lv_goto (tgt := 44) hx hb dX4_drifts_36 (by decide) ?_
    have hzn : (dfT w).length = 0 := by omega
    have e2 : dfV2 w = sDraw (wSeed w) := if_pos hzn
    have eK : dfK w = 0 := if_pos hzn
    rw [← e2] at hd
    refine g_topz (y := (dfK w : Int)) (by omega) ?_
    obtain ⟨U, hU⟩ : ∃ U, U = (sI S_2 8 z_3) := ⟨_, rfl⟩
    rw [← hU] at hd hG
    refine lv_istore (lv' := [(5, .int (zI (dfK w : Int))), (4, .int (zI ((hi16 (sDraw (wSeed w)) % 4 : Nat) : Int))), (3, .int (zI ((dfT w).length : Int))), (2, .int (zI (24 * (wN w : Int)))), (1, .int (zI (wN w : Int))), (0, .ref mo)]) hx hb dX4_drifts_44 hl (by decide) rfl (fun ls hl => ?_)
    have hl : lv_has ls 9 [(5, .int (zI (dfK w : Int))), (4, .int (zI (dfA w : Int))), (3, .int (zI ((dfT w).length : Int))), (2, .int (zI (24 * (wN w : Int)))), (1, .int (zI (wN w : Int))), (0, .ref mo)] := by exact hl
    rcases (show dfA w = 0 ∨ dfA w = 1 ∨ dfA w = 2 ∨ dfA w = 3 by omega) with hA | hA | hA | hA
    · have hl : lv_has ls 9 [(5, .int (zI (dfK w : Int))), (4, .int (zI 0)), (3, .int (zI ((dfT w).length : Int))), (2, .int (zI (24 * (wN w : Int)))), (1, .int (zI (wN w : Int))), (0, .ref mo)] := by rw [hA] at hl; exact hl
      refine lv_iload hx hb dX4_drifts_46 (lv_at hl 1 rfl) ?_
      refine g_ne (tgt := 122) hx hb dX4_drifts_48 (by decide) (by decide) (fun hq => ?_) (fun hq => ?_)
      · exfalso; omega
      · refine lv_iload_n hx hb dX4_drifts_51 rfl (lv_at hl 2 rfl) ?_
        refine lv_bipush (v := zI 24) hx hb dX4_drifts_52 (by decide +kernel) ?_
        refine g_cge (tgt := 122) hx hb dX4_drifts_54 (by decide) (by omega) (fun h5 => ?_) (fun h5 => ?_)
        · refine lv_iload hx hb dX4_drifts_122 (lv_at hl 1 rfl) ?_
          refine lv_iconst (v := zI 1) hx hb dX4_drifts_124 (by decide +kernel) ?_
          refine g_cne (tgt := 180) hx hb dX4_drifts_125 (by decide) (by omega) (fun hq => ?_) (fun hq => ?_)
          · refine lv_iload hx hb dX4_drifts_180 (lv_at hl 1 rfl) ?_
            refine lv_iconst (v := zI 2) hx hb dX4_drifts_182 (by decide +kernel) ?_
            refine g_cne (tgt := 244) hx hb dX4_drifts_183 (by decide) (by omega) (fun hq => ?_) (fun hq => ?_)
            · refine lv_iload hx hb dX4_drifts_244 (lv_at hl 1 rfl) ?_
              refine lv_iconst (v := zI 3) hx hb dX4_drifts_246 (by decide +kernel) ?_
              refine g_cne (tgt := 266) hx hb dX4_drifts_247 (by decide) (by omega) (fun hq => ?_) (fun hq => ?_)
              · refine lv_aload_n hx hb dX4_drifts_266 rfl (lv_at hl 5 rfl) ?_
                refine lv_iload_n hx hb dX4_drifts_267 rfl (lv_at hl 4 rfl) ?_
                refine lv_iconst (v := zI 1) hx hb dX4_drifts_268 (by decide +kernel) ?_
                refine g_isub hx hb dX4_drifts_269 ?_
                refine g_topz (y := oI (some (wN w - 1))) (by rw [oI_some]; omega) ?_
                obtain ⟨vv, hvv⟩ : ∃ vv, vv = dfV2 w := ⟨_, rfl⟩
                obtain ⟨tt, htt⟩ : ∃ tt, tt = dfT w := ⟨_, rfl⟩
                have hd : dS S U (wN w) vv (((dfT w).length : Int)) ((fun j => S.2.2 3 (24 * (wN w - 1) + j))) := by rw [hvv]; exact hd
                have hR : dfR w = (tt, vv) := by rw [hvv, htt]; unfold dfR; rw [if_neg (by omega), if_neg (by omega), if_neg (by omega), if_neg (by omega)]
                have htx2 : txOK (dfR w).1 := dfR_ok htx
                rw [hR] at htx2
                have htx2 : txOK tt := htx2
                have hlen : ((dfT w).length : Int) = (tt.length : Nat) := by rw [htt]; all_goals (exact rfl)
                have hrow : ∀ i9, i9 < tt.length → (fun j => S.2.2 3 (24 * (wN w - 1) + j)) i9 = lnZ (tt.getD i9 []) := by intro i9 hi; rw [htt] at hi ⊢; exact (hg0 i9 hi)
                refine m_ci (va_runV (As := [.int (zI (oI (some (wN w - 1))))]) (rest := []) ⟨hx, hb, hml, hown, hts⟩ (metX4_comesTo (w := wSeedTo w vv) (fo := some (wN w - 1)) (t := tt) (hd.o hO hK) (hK.seedTo vv) (show wN (wSeedTo w vv) < 16 from hn1.2) (fun f hf => by cases hf; show wN w - 1 < wN w; omega) htx2 (hd.2.2.1.1.trans hlen) (fun i9 hi => (hd.2.2.2.2.1 i9 (by have := htx2.1; omega)).trans (hrow i9 hi))) (cwV 1 hts (lw_V q3493 q3495 qs51 q102 q3496) rfl rfl rfl (by decide +kernel) ⟨Nat.le_of_ble_eq_true rfl, Nat.le_of_ble_eq_true rfl⟩) (m_preV hG) rfl rfl hl.1 rfl (lv_room (Nat.le_of_ble_eq_true rfl)) dX4_drifts_270 ⟨Nat.le_of_ble_eq_true rfl, Nat.le_of_ble_eq_true rfl⟩) hG (fun r_28 S_29 H locs hp hG => ?_)
                obtain ⟨rfl, hO9, hk14⟩ := hp
                have hG : mW X mo ad S_29 s H locs := hG
                refine lv_pop hx hb dX4_drifts_273 rfl ?_
                exact m_vret hx hb hr hlocks hG (⟨by unfold wDrift; rw [hR]; exact hO9, hd.kd hk14⟩) ⟨Nat.le_of_ble_eq_true rfl, Nat.le_of_ble_eq_true rfl⟩ dX4_drifts_274
              · exfalso; omega
            · exfalso; omega
          · exfalso; omega
        · refine lv_iload_n hx hb dX4_drifts_57 rfl (lv_at hl 2 rfl) ?_
          refine lv_istore (lv' := [(6, .int (zI ((dfT w).length : Int))), (5, .int (zI (dfK w : Int))), (4, .int (zI 0)), (3, .int (zI ((dfT w).length : Int))), (2, .int (zI (24 * (wN w : Int)))), (1, .int (zI (wN w : Int))), (0, .ref mo)]) hx hb dX4_drifts_58 hl (by decide) rfl (fun ls hl => ?_)
          refine g_loop (fun mz H locs ls => ∃ (i : Nat) (T : mS) (g : Nat → Int64), (dfK w ≤ i ∧ i ≤ (dfT w).length ∧ mz = i - dfK w ∧ dS S T (wN w) (dfV2 w) ((dfT w).length : Nat) g ∧ ∀ j, g j = if i < j ∧ j ≤ (dfT w).length then (fun j => S.2.2 3 (24 * (wN w - 1) + j)) (j - 1) else (fun j => S.2.2 3 (24 * (wN w - 1) + j)) j) ∧ mW X mo ad T s H locs ∧ lv_has ls 9 [(0, .ref mo), (1, .int (zI (wN w : Int))), (2, .int (zI (24 * (wN w : Int)))), (3, .int (zI ((dfT w).length : Int))), (4, .int (zI 0)), (5, .int (zI (dfK w : Int))), (6, .int (zI (i : Int)))]) ((dfT w).length - dfK w) ⟨((dfT w).length), U, _, ⟨hkR.1, Nat.le_refl _, rfl, hd, fun j => by rw [if_neg (by omega)]⟩, hG, (lv_sub hl [6, 5, 4, 3, 2, 1, 0] rfl)⟩ (fun mz ihI H locs ls hI => ?_)
          obtain ⟨i, T, g, ⟨hki, hin, hmz, hd, hg⟩, hG, hl⟩ := hI
          refine lv_iload hx hb dX4_drifts_60 (lv_at hl 6 rfl) ?_
          refine lv_iload hx hb dX4_drifts_62 (lv_at hl 5 rfl) ?_
          refine g_cle (tgt := 93) hx hb dX4_drifts_64 (by decide) (by omega) (fun h6 => ?_) (fun h6 => ?_)
          · have hik : i = dfK w := by omega
            rw [hik] at hg
            refine lv_aload_n hx hb dX4_drifts_93 rfl (lv_at hl 0 rfl) ?_
            refine m_get 3 (by decide) (v := .ref (ad 3)) rfl hx hb hts hown hG (hts _ q3299) dX4_drifts_94 ?_
            refine lv_iload_n hx hb dX4_drifts_97 rfl (lv_at hl 2 rfl) ?_
            refine lv_iload hx hb dX4_drifts_98 (lv_at hl 5 rfl) ?_
            refine g_iadd hx hb dX4_drifts_100 ?_
            refine lv_bipush (v := zI 97) hx hb dX4_drifts_101 (by decide +kernel) ?_
            refine lv_aload_n hx hb dX4_drifts_103 rfl (lv_at hl 0 rfl) ?_
            refine lv_bipush (v := zI 26) hx hb dX4_drifts_104 (by decide +kernel) ?_
            refine g_topz (y := ((26 : Nat) : Int)) rfl ?_
            refine m_ci (va_runV (As := [.int (zI ((26 : Nat) : Int))]) (rest := [.int (zI 97), .int (zI ((24 * (wN w : Int)) + (dfK w : Int))), .ref (ad 3)]) ⟨hx, hb, hml, hown, hts⟩ (metX4_draw (n := 26) (v := (dfV2 w)) hd.2.1 (by omega)) (cwV 1 hts (lw_V q3696 q3698 qs79 q102 q3699) rfl rfl rfl (by decide +kernel) ⟨Nat.le_of_ble_eq_true rfl, Nat.le_of_ble_eq_true rfl⟩) (m_preV hG) rfl rfl hl.1 rfl (lv_room (Nat.le_of_ble_eq_true rfl)) dX4_drifts_106 ⟨Nat.le_of_ble_eq_true rfl, Nat.le_of_ble_eq_true rfl⟩) hG (fun r_31 S_32 H locs hp hG => ?_)
            obtain ⟨rfl, z_30, hz_30, rfl⟩ := hp
            have hG : mW X mo ad (sI T 8 z_30) s H locs := hG
            have hd := hd.draw hz_30
            refine g_iadd hx hb dX4_drifts_109 ?_
            refine g_i2l hx hb dX4_drifts_110 (by omega) ?_
            refine m_last 3 rfl rfl (24 * wN w + dfK w) ⟨by omega, by show _ < 408; omega⟩ hx hb hG dX4_drifts_111 (fun H locs (hG : mW X mo ad (sL (sI T 8 z_30) 3 (24 * wN w + dfK w) (zL (97 + ((hi16 (sDraw (dfV2 w)) % 26 : Nat) : Int)))) s H locs) => ?_)
            have hd := hd.row (j := dfK w) (by omega) (zL (97 + ((hi16 (sDraw (dfV2 w)) % 26 : Nat) : Int)))
            refine lv_aload_n hx hb dX4_drifts_112 rfl (lv_at hl 0 rfl) ?_
            refine m_get 2 (by decide) (v := .ref (ad 2)) rfl hx hb hts hown hG (hts _ q3298) dX4_drifts_113 ?_
            refine lv_iload_n hx hb dX4_drifts_116 rfl (lv_at hl 1 rfl) ?_
            refine lv_dup2_11 hx hb dX4_drifts_117 rfl rfl ?_
            refine m_iald 2 rfl rfl (by decide) (wN w) (v := ((dfT w).length : Int)) ⟨by omega, by show _ < 17; omega⟩ (show (sL (sI T 8 z_30) 3 (24 * wN w + dfK w) (zL (97 + ((hi16 (sDraw (dfV2 w)) % 26 : Nat) : Int)))).2.1 2 (wN w) = ((dfT w).length : Int) from hd.2.2.1.1) hx hb hG dX4_drifts_118 ?_
            refine lv_iconst (v := zI 1) hx hb dX4_drifts_119 (by decide +kernel) ?_
            refine g_iadd hx hb dX4_drifts_120 ?_
            refine m_iast 2 rfl rfl (by decide) (wN w) ⟨by omega, by show _ < 17; omega⟩ hx hb hG dX4_drifts_121 (fun H locs (hG : mW X mo ad (sA (sL (sI T 8 z_30) 3 (24 * wN w + dfK w) (zL (97 + ((hi16 (sDraw (dfV2 w)) % 26 : Nat) : Int)))) 2 (wN w) (((dfT w).length : Int) + 1)) s H locs) => ?_)
            have hd := hd.len (((dfT w).length : Int) + 1)
            refine lv_iload hx hb dX4_drifts_122 (lv_at hl 4 rfl) ?_
            refine lv_iconst (v := zI 1) hx hb dX4_drifts_124 (by decide +kernel) ?_
            refine g_cne (tgt := 180) hx hb dX4_drifts_125 (by decide) (by omega) (fun hq => ?_) (fun hq => ?_)
            · refine lv_iload hx hb dX4_drifts_180 (lv_at hl 4 rfl) ?_
              refine lv_iconst (v := zI 2) hx hb dX4_drifts_182 (by decide +kernel) ?_
              refine g_cne (tgt := 244) hx hb dX4_drifts_183 (by decide) (by omega) (fun hq => ?_) (fun hq => ?_)
              · refine lv_iload hx hb dX4_drifts_244 (lv_at hl 4 rfl) ?_
                refine lv_iconst (v := zI 3) hx hb dX4_drifts_246 (by decide +kernel) ?_
                refine g_cne (tgt := 266) hx hb dX4_drifts_247 (by decide) (by omega) (fun hq => ?_) (fun hq => ?_)
                · obtain ⟨U2, hU2⟩ : ∃ U2, U2 = (sA (sL (sI T 8 z_30) 3 (24 * wN w + dfK w) (zL (97 + ((hi16 (sDraw (dfV2 w)) % 26 : Nat) : Int)))) 2 (wN w) (((dfT w).length : Int) + 1)) := ⟨_, rfl⟩
                  rw [← hU2] at hd hG
                  refine lv_aload_n hx hb dX4_drifts_266 rfl (lv_at hl 0 rfl) ?_
                  refine lv_iload_n hx hb dX4_drifts_267 rfl (lv_at hl 1 rfl) ?_
                  refine lv_iconst (v := zI 1) hx hb dX4_drifts_268 (by decide +kernel) ?_
                  refine g_isub hx hb dX4_drifts_269 ?_
                  refine g_topz (y := oI (some (wN w - 1))) (by rw [oI_some]; omega) ?_
                  obtain ⟨vv, hvv⟩ : ∃ vv, vv = sDraw (dfV2 w) := ⟨_, rfl⟩
                  obtain ⟨tt, htt⟩ : ∃ tt, tt = insT (dfT w) (dfK w) [97 + hi16 (sDraw (dfV2 w)) % 26] := ⟨_, rfl⟩
                  have hd : dS S U2 (wN w) vv (((dfT w).length : Int) + 1) (va_up g (dfK w) (zL (97 + ((hi16 (sDraw (dfV2 w)) % 26 : Nat) : Int)))) := by rw [hvv]; exact hd
                  have hR : dfR w = (tt, vv) := by rw [hvv, htt]; unfold dfR; rw [if_pos (by omega)]
                  have htx2 : txOK (dfR w).1 := dfR_ok htx
                  rw [hR] at htx2
                  have htx2 : txOK tt := htx2
                  have hlen : ((dfT w).length : Int) + 1 = (tt.length : Nat) := by rw [htt]; all_goals (exact (by rw [insT_len hkR.1]; rfl))
                  have hrow : ∀ i9, i9 < tt.length → va_up g (dfK w) (zL (97 + ((hi16 (sDraw (dfV2 w)) % 26 : Nat) : Int))) i9 = lnZ (tt.getD i9 []) := by intro i9 hi; rw [htt] at hi ⊢; exact (by rw [insT_len hkR.1] at hi; exact (insRow hkR.1 hg hg0 i9 (by omega)))
                  refine m_ci (va_runV (As := [.int (zI (oI (some (wN w - 1))))]) (rest := []) ⟨hx, hb, hml, hown, hts⟩ (metX4_comesTo (w := wSeedTo w vv) (fo := some (wN w - 1)) (t := tt) (hd.o hO hK) (hK.seedTo vv) (show wN (wSeedTo w vv) < 16 from hn1.2) (fun f hf => by cases hf; show wN w - 1 < wN w; omega) htx2 (hd.2.2.1.1.trans hlen) (fun i9 hi => (hd.2.2.2.2.1 i9 (by have := htx2.1; omega)).trans (hrow i9 hi))) (cwV 1 hts (lw_V q3493 q3495 qs51 q102 q3496) rfl rfl rfl (by decide +kernel) ⟨Nat.le_of_ble_eq_true rfl, Nat.le_of_ble_eq_true rfl⟩) (m_preV hG) rfl rfl hl.1 rfl (lv_room (Nat.le_of_ble_eq_true rfl)) dX4_drifts_270 ⟨Nat.le_of_ble_eq_true rfl, Nat.le_of_ble_eq_true rfl⟩) hG (fun r_33 S_34 H locs hp hG => ?_)
                  obtain ⟨rfl, hO9, hk14⟩ := hp
                  have hG : mW X mo ad S_34 s H locs := hG
                  refine lv_pop hx hb dX4_drifts_273 rfl ?_
                  exact m_vret hx hb hr hlocks hG (⟨by unfold wDrift; rw [hR]; exact hO9, hd.kd hk14⟩) ⟨Nat.le_of_ble_eq_true rfl, Nat.le_of_ble_eq_true rfl⟩ dX4_drifts_274
                · exfalso; omega
              · exfalso; omega
            · exfalso; omega
          · obtain ⟨i, rfl⟩ : ∃ q, i = q + 1 := ⟨i - 1, by omega⟩
            have hl : lv_has ls 9 [(0, .ref mo), (1, .int (zI (wN w : Int))), (2, .int (zI (24 * (wN w : Int)))), (3, .int (zI ((dfT w).length : Int))), (4, .int (zI 0)), (5, .int (zI (dfK w : Int))), (6, .int (zI ((i + 1 : Nat) : Int)))] := by exact hl
            refine lv_aload_n hx hb dX4_drifts_67 rfl (lv_at hl 0 rfl) ?_
            refine m_get 3 (by decide) (v := .ref (ad 3)) rfl hx hb hts hown hG (hts _ q3299) dX4_drifts_68 ?_
            refine lv_iload_n hx hb dX4_drifts_71 rfl (lv_at hl 2 rfl) ?_
            refine lv_iload hx hb dX4_drifts_72 (lv_at hl 6 rfl) ?_
            refine g_iadd hx hb dX4_drifts_74 ?_
            refine lv_aload_n hx hb dX4_drifts_75 rfl (lv_at hl 0 rfl) ?_
            refine m_get 3 (by decide) (v := .ref (ad 3)) rfl hx hb hts hown hG (hts _ q3299) dX4_drifts_76 ?_
            refine lv_iload_n hx hb dX4_drifts_79 rfl (lv_at hl 2 rfl) ?_
            refine lv_iload hx hb dX4_drifts_80 (lv_at hl 6 rfl) ?_
            refine g_iadd hx hb dX4_drifts_82 ?_
            refine lv_iconst (v := zI 1) hx hb dX4_drifts_83 (by decide +kernel) ?_
            refine g_isub hx hb dX4_drifts_84 ?_
            refine m_lald 3 rfl rfl (24 * wN w + i) (v := (g i)) ⟨by omega, by show _ < 408; omega⟩ (hd.2.2.2.2.1 i (by omega)) hx hb hG dX4_drifts_85 ?_
            refine m_last 3 rfl rfl (24 * wN w + (i + 1)) ⟨by omega, by show _ < 408; omega⟩ hx hb hG dX4_drifts_86 (fun H locs (hG : mW X mo ad (sL T 3 (24 * wN w + (i + 1)) (g i)) s H locs) => ?_)
            refine lv_iinc (v := zI (((i + 1 : Nat) : Int) - 1 : Int)) (lv' := [(6, .int (zI (((i + 1 : Nat) : Int) - 1 : Int))), (0, .ref mo), (1, .int (zI (wN w : Int))), (2, .int (zI (24 * (wN w : Int)))), (3, .int (zI ((dfT w).length : Int))), (4, .int (zI 0)), (5, .int (zI (dfK w : Int)))]) hx hb dX4_drifts_87 hl (k := 6) rfl ((zI_add _ _).trans (congrArg zI (by omega))) (by decide) rfl (fun ls hl => ?_)
            refine lv_goto (tgt := 60) hx hb dX4_drifts_90 (by decide) ?_
            have hl : lv_has ls 9 [(6, .int (zI (i : Int))), (0, .ref mo), (1, .int (zI (wN w : Int))), (2, .int (zI (24 * (wN w : Int)))), (3, .int (zI ((dfT w).length : Int))), (4, .int (zI 0)), (5, .int (zI (dfK w : Int)))] := by rw [show ((i + 1 : Nat) : Int) - 1 = (i : Int) by omega] at hl; exact hl
            exact ihI (i - dfK w) (by omega) H locs ls ⟨i, _, _, ⟨by omega, by omega, rfl, hd.row (by omega) _, fun j => by by_cases hj : j = i + 1; (subst hj; rw [va_up_self, if_pos (by omega), hg i, if_neg (by omega), show i + 1 - 1 = i by omega]); (rw [va_up_ne _ _ hj, hg j]; by_cases h1 : i + 1 < j ∧ j ≤ (dfT w).length; (rw [if_pos h1, if_pos (by omega)]); (rw [if_neg h1, if_neg (by omega)]))⟩, hG, (lv_sub hl [1, 2, 3, 4, 5, 6, 0] rfl)⟩
    · have hl : lv_has ls 9 [(5, .int (zI (dfK w : Int))), (4, .int (zI 1)), (3, .int (zI ((dfT w).length : Int))), (2, .int (zI (24 * (wN w : Int)))), (1, .int (zI (wN w : Int))), (0, .ref mo)] := by rw [hA] at hl; exact hl
      refine lv_iload hx hb dX4_drifts_46 (lv_at hl 1 rfl) ?_
      refine g_ne (tgt := 122) hx hb dX4_drifts_48 (by decide) (by decide) (fun hq => ?_) (fun hq => ?_)
      · refine lv_iload hx hb dX4_drifts_122 (lv_at hl 1 rfl) ?_
        refine lv_iconst (v := zI 1) hx hb dX4_drifts_124 (by decide +kernel) ?_
        refine g_cne (tgt := 180) hx hb dX4_drifts_125 (by decide) (by omega) (fun hq => ?_) (fun hq => ?_)
        · exfalso; omega
        · refine lv_iload_n hx hb dX4_drifts_128 rfl (lv_at hl 2 rfl) ?_
          refine g_le (tgt := 180) hx hb dX4_drifts_129 (by decide) (by omega) (fun h5 => ?_) (fun h5 => ?_)
          · refine lv_iload hx hb dX4_drifts_180 (lv_at hl 1 rfl) ?_
            refine lv_iconst (v := zI 2) hx hb dX4_drifts_182 (by decide +kernel) ?_
            refine g_cne (tgt := 244) hx hb dX4_drifts_183 (by decide) (by omega) (fun hq => ?_) (fun hq => ?_)
            · refine lv_iload hx hb dX4_drifts_244 (lv_at hl 1 rfl) ?_
              refine lv_iconst (v := zI 3) hx hb dX4_drifts_246 (by decide +kernel) ?_
              refine g_cne (tgt := 266) hx hb dX4_drifts_247 (by decide) (by omega) (fun hq => ?_) (fun hq => ?_)
              · refine lv_aload_n hx hb dX4_drifts_266 rfl (lv_at hl 5 rfl) ?_
                refine lv_iload_n hx hb dX4_drifts_267 rfl (lv_at hl 4 rfl) ?_
                refine lv_iconst (v := zI 1) hx hb dX4_drifts_268 (by decide +kernel) ?_
                refine g_isub hx hb dX4_drifts_269 ?_
                refine g_topz (y := oI (some (wN w - 1))) (by rw [oI_some]; omega) ?_
                obtain ⟨vv, hvv⟩ : ∃ vv, vv = dfV2 w := ⟨_, rfl⟩
                obtain ⟨tt, htt⟩ : ∃ tt, tt = dfT w := ⟨_, rfl⟩
                have hd : dS S U (wN w) vv (((dfT w).length : Int)) ((fun j => S.2.2 3 (24 * (wN w - 1) + j))) := by rw [hvv]; exact hd
                have hR : dfR w = (tt, vv) := by rw [hvv, htt]; unfold dfR; rw [if_neg (by omega), if_neg (by omega), if_neg (by omega), if_neg (by omega)]
                have htx2 : txOK (dfR w).1 := dfR_ok htx
                rw [hR] at htx2
                have htx2 : txOK tt := htx2
                have hlen : ((dfT w).length : Int) = (tt.length : Nat) := by rw [htt]; all_goals (exact rfl)
                have hrow : ∀ i9, i9 < tt.length → (fun j => S.2.2 3 (24 * (wN w - 1) + j)) i9 = lnZ (tt.getD i9 []) := by intro i9 hi; rw [htt] at hi ⊢; exact (hg0 i9 hi)
                refine m_ci (va_runV (As := [.int (zI (oI (some (wN w - 1))))]) (rest := []) ⟨hx, hb, hml, hown, hts⟩ (metX4_comesTo (w := wSeedTo w vv) (fo := some (wN w - 1)) (t := tt) (hd.o hO hK) (hK.seedTo vv) (show wN (wSeedTo w vv) < 16 from hn1.2) (fun f hf => by cases hf; show wN w - 1 < wN w; omega) htx2 (hd.2.2.1.1.trans hlen) (fun i9 hi => (hd.2.2.2.2.1 i9 (by have := htx2.1; omega)).trans (hrow i9 hi))) (cwV 1 hts (lw_V q3493 q3495 qs51 q102 q3496) rfl rfl rfl (by decide +kernel) ⟨Nat.le_of_ble_eq_true rfl, Nat.le_of_ble_eq_true rfl⟩) (m_preV hG) rfl rfl hl.1 rfl (lv_room (Nat.le_of_ble_eq_true rfl)) dX4_drifts_270 ⟨Nat.le_of_ble_eq_true rfl, Nat.le_of_ble_eq_true rfl⟩) hG (fun r_35 S_36 H locs hp hG => ?_)
                obtain ⟨rfl, hO9, hk14⟩ := hp
                have hG : mW X mo ad S_36 s H locs := hG
                refine lv_pop hx hb dX4_drifts_273 rfl ?_
                exact m_vret hx hb hr hlocks hG (⟨by unfold wDrift; rw [hR]; exact hO9, hd.kd hk14⟩) ⟨Nat.le_of_ble_eq_true rfl, Nat.le_of_ble_eq_true rfl⟩ dX4_drifts_274
              · exfalso; omega
            · exfalso; omega
          · refine lv_iload hx hb dX4_drifts_132 (lv_at hl 0 rfl) ?_
            refine lv_istore (lv' := [(6, .int (zI (dfK w : Int))), (5, .int (zI (dfK w : Int))), (4, .int (zI 1)), (3, .int (zI ((dfT w).length : Int))), (2, .int (zI (24 * (wN w : Int)))), (1, .int (zI (wN w : Int))), (0, .ref mo)]) hx hb dX4_drifts_134 hl (by decide) rfl (fun ls hl => ?_)
            refine g_loop (fun mz H locs ls => ∃ (i : Nat) (T : mS) (g : Nat → Int64), (dfK w ≤ i ∧ i < (dfT w).length ∧ mz = (dfT w).length - i ∧ dS S T (wN w) (dfV2 w) ((dfT w).length : Nat) g ∧ ∀ j, g j = if dfK w ≤ j ∧ j < i then (fun j => S.2.2 3 (24 * (wN w - 1) + j)) (j + 1) else (fun j => S.2.2 3 (24 * (wN w - 1) + j)) j) ∧ mW X mo ad T s H locs ∧ lv_has ls 9 [(0, .ref mo), (1, .int (zI (wN w : Int))), (2, .int (zI (24 * (wN w : Int)))), (3, .int (zI ((dfT w).length : Int))), (4, .int (zI 1)), (5, .int (zI (dfK w : Int))), (6, .int (zI (i : Int)))]) ((dfT w).length - dfK w) ⟨(dfK w), U, _, ⟨Nat.le_refl _, hkR.2 (by omega), rfl, hd, fun j => by rw [if_neg (by omega)]⟩, hG, (lv_sub hl [6, 5, 4, 3, 2, 1, 0] rfl)⟩ (fun mz ihR H locs ls hI => ?_)
            obtain ⟨i, T, g, ⟨hki, hin, hmz, hd, hg⟩, hG, hl⟩ := hI
            refine lv_iload hx hb dX4_drifts_136 (lv_at hl 6 rfl) ?_
            refine lv_iload_n hx hb dX4_drifts_138 rfl (lv_at hl 3 rfl) ?_
            refine lv_iconst (v := zI 1) hx hb dX4_drifts_139 (by decide +kernel) ?_
            refine g_isub hx hb dX4_drifts_140 ?_
            refine g_cge (tgt := 170) hx hb dX4_drifts_141 (by decide) (by omega) (fun h6 => ?_) (fun h6 => ?_)
            · have hik : i + 1 = (dfT w).length := by omega
              refine lv_aload_n hx hb dX4_drifts_170 rfl (lv_at hl 0 rfl) ?_
              refine m_get 2 (by decide) (v := .ref (ad 2)) rfl hx hb hts hown hG (hts _ q3298) dX4_drifts_171 ?_
              refine lv_iload_n hx hb dX4_drifts_174 rfl (lv_at hl 1 rfl) ?_
              refine lv_dup2_11 hx hb dX4_drifts_175 rfl rfl ?_
              refine m_iald 2 rfl rfl (by decide) (wN w) (v := ((dfT w).length : Int)) ⟨by omega, by show _ < 17; omega⟩ (show T.2.1 2 (wN w) = ((dfT w).length : Int) from hd.2.2.1.1) hx hb hG dX4_drifts_176 ?_
              refine lv_iconst (v := zI 1) hx hb dX4_drifts_177 (by decide +kernel) ?_
              refine g_isub hx hb dX4_drifts_178 ?_
              refine m_iast 2 rfl rfl (by decide) (wN w) ⟨by omega, by show _ < 17; omega⟩ hx hb hG dX4_drifts_179 (fun H locs (hG : mW X mo ad (sA T 2 (wN w) (((dfT w).length : Int) - 1)) s H locs) => ?_)
              have hd := hd.len (((dfT w).length : Int) - 1)
              refine lv_iload hx hb dX4_drifts_180 (lv_at hl 4 rfl) ?_
              refine lv_iconst (v := zI 2) hx hb dX4_drifts_182 (by decide +kernel) ?_
              refine g_cne (tgt := 244) hx hb dX4_drifts_183 (by decide) (by omega) (fun hq => ?_) (fun hq => ?_)
              · refine lv_iload hx hb dX4_drifts_244 (lv_at hl 4 rfl) ?_
                refine lv_iconst (v := zI 3) hx hb dX4_drifts_246 (by decide +kernel) ?_
                refine g_cne (tgt := 266) hx hb dX4_drifts_247 (by decide) (by omega) (fun hq => ?_) (fun hq => ?_)
                · obtain ⟨U2, hU2⟩ : ∃ U2, U2 = (sA T 2 (wN w) (((dfT w).length : Int) - 1)) := ⟨_, rfl⟩
                  rw [← hU2] at hd hG
                  refine lv_aload_n hx hb dX4_drifts_266 rfl (lv_at hl 0 rfl) ?_
                  refine lv_iload_n hx hb dX4_drifts_267 rfl (lv_at hl 1 rfl) ?_
                  refine lv_iconst (v := zI 1) hx hb dX4_drifts_268 (by decide +kernel) ?_
                  refine g_isub hx hb dX4_drifts_269 ?_
                  refine g_topz (y := oI (some (wN w - 1))) (by rw [oI_some]; omega) ?_
                  obtain ⟨vv, hvv⟩ : ∃ vv, vv = dfV2 w := ⟨_, rfl⟩
                  obtain ⟨tt, htt⟩ : ∃ tt, tt = rmT (dfT w) (dfK w) := ⟨_, rfl⟩
                  have hd : dS S U2 (wN w) vv (((dfT w).length : Int) - 1) (g) := by rw [hvv]; exact hd
                  have hR : dfR w = (tt, vv) := by rw [hvv, htt]; unfold dfR; rw [if_neg (by omega), if_pos (by omega)]
                  have htx2 : txOK (dfR w).1 := dfR_ok htx
                  rw [hR] at htx2
                  have htx2 : txOK tt := htx2
                  have hlen : ((dfT w).length : Int) - 1 = (tt.length : Nat) := by rw [htt]; all_goals (exact (by rw [rmT_len (by omega)]; omega))
                  have hrow : ∀ i9, i9 < tt.length → g i9 = lnZ (tt.getD i9 []) := by intro i9 hi; rw [htt] at hi ⊢; exact (by rw [rmT_len (by omega)] at hi; rw [rmT_get (by omega), hg i9]; by_cases h9 : i9 < dfK w; (rw [if_neg (by omega), if_pos h9]; exact hg0 _ (by omega)); (rw [if_pos (by omega), if_neg h9]; exact hg0 _ (by omega)))
                  refine m_ci (va_runV (As := [.int (zI (oI (some (wN w - 1))))]) (rest := []) ⟨hx, hb, hml, hown, hts⟩ (metX4_comesTo (w := wSeedTo w vv) (fo := some (wN w - 1)) (t := tt) (hd.o hO hK) (hK.seedTo vv) (show wN (wSeedTo w vv) < 16 from hn1.2) (fun f hf => by cases hf; show wN w - 1 < wN w; omega) htx2 (hd.2.2.1.1.trans hlen) (fun i9 hi => (hd.2.2.2.2.1 i9 (by have := htx2.1; omega)).trans (hrow i9 hi))) (cwV 1 hts (lw_V q3493 q3495 qs51 q102 q3496) rfl rfl rfl (by decide +kernel) ⟨Nat.le_of_ble_eq_true rfl, Nat.le_of_ble_eq_true rfl⟩) (m_preV hG) rfl rfl hl.1 rfl (lv_room (Nat.le_of_ble_eq_true rfl)) dX4_drifts_270 ⟨Nat.le_of_ble_eq_true rfl, Nat.le_of_ble_eq_true rfl⟩) hG (fun r_37 S_38 H locs hp hG => ?_)
                  obtain ⟨rfl, hO9, hk14⟩ := hp
                  have hG : mW X mo ad S_38 s H locs := hG
                  refine lv_pop hx hb dX4_drifts_273 rfl ?_
                  exact m_vret hx hb hr hlocks hG (⟨by unfold wDrift; rw [hR]; exact hO9, hd.kd hk14⟩) ⟨Nat.le_of_ble_eq_true rfl, Nat.le_of_ble_eq_true rfl⟩ dX4_drifts_274
                · exfalso; omega
              · exfalso; omega
            · refine lv_aload_n hx hb dX4_drifts_144 rfl (lv_at hl 0 rfl) ?_
              refine m_get 3 (by decide) (v := .ref (ad 3)) rfl hx hb hts hown hG (hts _ q3299) dX4_drifts_145 ?_
              refine lv_iload_n hx hb dX4_drifts_148 rfl (lv_at hl 2 rfl) ?_
              refine lv_iload hx hb dX4_drifts_149 (lv_at hl 6 rfl) ?_
              refine g_iadd hx hb dX4_drifts_151 ?_
              refine lv_aload_n hx hb dX4_drifts_152 rfl (lv_at hl 0 rfl) ?_
              refine m_get 3 (by decide) (v := .ref (ad 3)) rfl hx hb hts hown hG (hts _ q3299) dX4_drifts_153 ?_
              refine lv_iload_n hx hb dX4_drifts_156 rfl (lv_at hl 2 rfl) ?_
              refine lv_iload hx hb dX4_drifts_157 (lv_at hl 6 rfl) ?_
              refine g_iadd hx hb dX4_drifts_159 ?_
              refine lv_iconst (v := zI 1) hx hb dX4_drifts_160 (by decide +kernel) ?_
              refine g_iadd hx hb dX4_drifts_161 ?_
              refine m_lald 3 rfl rfl (24 * wN w + (i + 1)) (v := (g (i + 1))) ⟨by omega, by show _ < 408; omega⟩ (hd.2.2.2.2.1 (i + 1) (by omega)) hx hb hG dX4_drifts_162 ?_
              refine m_last 3 rfl rfl (24 * wN w + i) ⟨by omega, by show _ < 408; omega⟩ hx hb hG dX4_drifts_163 (fun H locs (hG : mW X mo ad (sL T 3 (24 * wN w + i) (g (i + 1))) s H locs) => ?_)
              refine lv_iinc (v := zI ((i : Int) + 1 : Int)) (lv' := [(6, .int (zI ((i : Int) + 1 : Int))), (0, .ref mo), (1, .int (zI (wN w : Int))), (2, .int (zI (24 * (wN w : Int)))), (3, .int (zI ((dfT w).length : Int))), (4, .int (zI 1)), (5, .int (zI (dfK w : Int)))]) hx hb dX4_drifts_164 hl (k := 6) rfl ((zI_add _ _).trans (congrArg zI (by omega))) (by decide) rfl (fun ls hl => ?_)
              refine lv_goto (tgt := 136) hx hb dX4_drifts_167 (by decide) ?_
              have hl : lv_has ls 9 [(6, .int (zI ((i + 1 : Nat) : Int))), (0, .ref mo), (1, .int (zI (wN w : Int))), (2, .int (zI (24 * (wN w : Int)))), (3, .int (zI ((dfT w).length : Int))), (4, .int (zI 1)), (5, .int (zI (dfK w : Int)))] := by exact hl
              exact ihR ((dfT w).length - (i + 1)) (by omega) H locs ls ⟨(i + 1), _, _, ⟨by omega, by omega, rfl, hd.row (by omega) _, fun j => by by_cases hj : j = i; (subst hj; rw [va_up_self, if_pos (by omega), hg (j + 1), if_neg (by omega)]); (rw [va_up_ne _ _ hj, hg j]; by_cases h1 : dfK w ≤ j ∧ j < i; (rw [if_pos h1, if_pos (by omega)]); (rw [if_neg h1, if_neg (by omega)]))⟩, hG, (lv_sub hl [1, 2, 3, 4, 5, 6, 0] rfl)⟩
      · exfalso; omega
    · have hl : lv_has ls 9 [(5, .int (zI (dfK w : Int))), (4, .int (zI 2)), (3, .int (zI ((dfT w).length : Int))), (2, .int (zI (24 * (wN w : Int)))), (1, .int (zI (wN w : Int))), (0, .ref mo)] := by rw [hA] at hl; exact hl
      refine lv_iload hx hb dX4_drifts_46 (lv_at hl 1 rfl) ?_
      refine g_ne (tgt := 122) hx hb dX4_drifts_48 (by decide) (by decide) (fun hq => ?_) (fun hq => ?_)
      · refine lv_iload hx hb dX4_drifts_122 (lv_at hl 1 rfl) ?_
        refine lv_iconst (v := zI 1) hx hb dX4_drifts_124 (by decide +kernel) ?_
        refine g_cne (tgt := 180) hx hb dX4_drifts_125 (by decide) (by omega) (fun hq => ?_) (fun hq => ?_)
        · refine lv_iload hx hb dX4_drifts_180 (lv_at hl 1 rfl) ?_
          refine lv_iconst (v := zI 2) hx hb dX4_drifts_182 (by decide +kernel) ?_
          refine g_cne (tgt := 244) hx hb dX4_drifts_183 (by decide) (by omega) (fun hq => ?_) (fun hq => ?_)
          · exfalso; omega
          · refine lv_iload_n hx hb dX4_drifts_186 rfl (lv_at hl 2 rfl) ?_
            refine g_le (tgt := 244) hx hb dX4_drifts_187 (by decide) (by omega) (fun h5 => ?_) (fun h5 => ?_)
            · refine lv_iload hx hb dX4_drifts_244 (lv_at hl 1 rfl) ?_
              refine lv_iconst (v := zI 3) hx hb dX4_drifts_246 (by decide +kernel) ?_
              refine g_cne (tgt := 266) hx hb dX4_drifts_247 (by decide) (by omega) (fun hq => ?_) (fun hq => ?_)
              · refine lv_aload_n hx hb dX4_drifts_266 rfl (lv_at hl 5 rfl) ?_
                refine lv_iload_n hx hb dX4_drifts_267 rfl (lv_at hl 4 rfl) ?_
                refine lv_iconst (v := zI 1) hx hb dX4_drifts_268 (by decide +kernel) ?_
                refine g_isub hx hb dX4_drifts_269 ?_
                refine g_topz (y := oI (some (wN w - 1))) (by rw [oI_some]; omega) ?_
                obtain ⟨vv, hvv⟩ : ∃ vv, vv = dfV2 w := ⟨_, rfl⟩
                obtain ⟨tt, htt⟩ : ∃ tt, tt = dfT w := ⟨_, rfl⟩
                have hd : dS S U (wN w) vv (((dfT w).length : Int)) ((fun j => S.2.2 3 (24 * (wN w - 1) + j))) := by rw [hvv]; exact hd
                have hR : dfR w = (tt, vv) := by rw [hvv, htt]; unfold dfR; rw [if_neg (by omega), if_neg (by omega), if_neg (by omega), if_neg (by omega)]
                have htx2 : txOK (dfR w).1 := dfR_ok htx
                rw [hR] at htx2
                have htx2 : txOK tt := htx2
                have hlen : ((dfT w).length : Int) = (tt.length : Nat) := by rw [htt]; all_goals (exact rfl)
                have hrow : ∀ i9, i9 < tt.length → (fun j => S.2.2 3 (24 * (wN w - 1) + j)) i9 = lnZ (tt.getD i9 []) := by intro i9 hi; rw [htt] at hi ⊢; exact (hg0 i9 hi)
                refine m_ci (va_runV (As := [.int (zI (oI (some (wN w - 1))))]) (rest := []) ⟨hx, hb, hml, hown, hts⟩ (metX4_comesTo (w := wSeedTo w vv) (fo := some (wN w - 1)) (t := tt) (hd.o hO hK) (hK.seedTo vv) (show wN (wSeedTo w vv) < 16 from hn1.2) (fun f hf => by cases hf; show wN w - 1 < wN w; omega) htx2 (hd.2.2.1.1.trans hlen) (fun i9 hi => (hd.2.2.2.2.1 i9 (by have := htx2.1; omega)).trans (hrow i9 hi))) (cwV 1 hts (lw_V q3493 q3495 qs51 q102 q3496) rfl rfl rfl (by decide +kernel) ⟨Nat.le_of_ble_eq_true rfl, Nat.le_of_ble_eq_true rfl⟩) (m_preV hG) rfl rfl hl.1 rfl (lv_room (Nat.le_of_ble_eq_true rfl)) dX4_drifts_270 ⟨Nat.le_of_ble_eq_true rfl, Nat.le_of_ble_eq_true rfl⟩) hG (fun r_39 S_40 H locs hp hG => ?_)
                obtain ⟨rfl, hO9, hk14⟩ := hp
                have hG : mW X mo ad S_40 s H locs := hG
                refine lv_pop hx hb dX4_drifts_273 rfl ?_
                exact m_vret hx hb hr hlocks hG (⟨by unfold wDrift; rw [hR]; exact hO9, hd.kd hk14⟩) ⟨Nat.le_of_ble_eq_true rfl, Nat.le_of_ble_eq_true rfl⟩ dX4_drifts_274
              · exfalso; omega
            · refine lv_aload_n hx hb dX4_drifts_190 rfl (lv_at hl 5 rfl) ?_
              refine m_get 3 (by decide) (v := .ref (ad 3)) rfl hx hb hts hown hG (hts _ q3299) dX4_drifts_191 ?_
              refine lv_iload_n hx hb dX4_drifts_194 rfl (lv_at hl 3 rfl) ?_
              refine lv_iload hx hb dX4_drifts_195 (lv_at hl 0 rfl) ?_
              refine g_iadd hx hb dX4_drifts_197 ?_
              refine m_lald 3 rfl rfl (24 * wN w + dfK w) (v := ((fun j => S.2.2 3 (24 * (wN w - 1) + j)) (dfK w))) ⟨by omega, by show _ < 408; omega⟩ (hd.2.2.2.2.1 (dfK w) (by omega)) hx hb hG dX4_drifts_198 ?_
              refine lv_lstore (lv' := [(6, .long ((fun j => S.2.2 3 (24 * (wN w - 1) + j)) (dfK w))), (5, .int (zI (dfK w : Int))), (4, .int (zI 2)), (3, .int (zI ((dfT w).length : Int))), (2, .int (zI (24 * (wN w : Int)))), (1, .int (zI (wN w : Int))), (0, .ref mo)]) hx hb dX4_drifts_199 hl (by decide) rfl (fun ls hl => ?_)
              refine lv_iload hx hb dX4_drifts_201 (lv_at hl 1 rfl) ?_
              refine lv_istore (lv' := [(8, .int (zI (dfK w : Int))), (6, .long ((fun j => S.2.2 3 (24 * (wN w - 1) + j)) (dfK w))), (5, .int (zI (dfK w : Int))), (4, .int (zI 2)), (3, .int (zI ((dfT w).length : Int))), (2, .int (zI (24 * (wN w : Int)))), (1, .int (zI (wN w : Int))), (0, .ref mo)]) hx hb dX4_drifts_203 hl (by decide) rfl (fun ls hl => ?_)
              refine g_loop (fun mz H locs ls => ∃ (i : Nat) (T : mS) (g : Nat → Int64), (i ≤ dfK w ∧ mz = i ∧ dS S T (wN w) (dfV2 w) ((dfT w).length : Nat) g ∧ ∀ j, g j = if i < j ∧ j ≤ dfK w then (fun j => S.2.2 3 (24 * (wN w - 1) + j)) (j - 1) else (fun j => S.2.2 3 (24 * (wN w - 1) + j)) j) ∧ mW X mo ad T s H locs ∧ lv_has ls 9 [(0, .ref mo), (1, .int (zI (wN w : Int))), (2, .int (zI (24 * (wN w : Int)))), (3, .int (zI ((dfT w).length : Int))), (4, .int (zI 2)), (5, .int (zI (dfK w : Int))), (6, .long ((fun j => S.2.2 3 (24 * (wN w - 1) + j)) (dfK w))), (8, .int (zI (i : Int)))]) (dfK w) ⟨(dfK w), U, _, ⟨Nat.le_refl _, rfl, hd, fun j => by rw [if_neg (by omega)]⟩, hG, (lv_sub hl [7, 6, 5, 4, 3, 2, 1, 0] rfl)⟩ (fun mz ihM H locs ls hI => ?_)
              obtain ⟨i, T, g, ⟨hki, hmz, hd, hg⟩, hG, hl⟩ := hI
              refine lv_iload hx hb dX4_drifts_205 (lv_at hl 7 rfl) ?_
              refine g_le (tgt := 236) hx hb dX4_drifts_207 (by decide) (by omega) (fun h6 => ?_) (fun h6 => ?_)
              · have hik : i = 0 := by omega
                subst hik
                refine lv_aload_n hx hb dX4_drifts_236 rfl (lv_at hl 0 rfl) ?_
                refine m_get 3 (by decide) (v := .ref (ad 3)) rfl hx hb hts hown hG (hts _ q3299) dX4_drifts_237 ?_
                refine lv_iload_n hx hb dX4_drifts_240 rfl (lv_at hl 2 rfl) ?_
                refine lv_lload hx hb dX4_drifts_241 (lv_at hl 6 rfl) ?_
                refine m_last 3 rfl rfl (24 * wN w + 0) ⟨by omega, by show _ < 408; omega⟩ hx hb hG dX4_drifts_243 (fun H locs (hG : mW X mo ad (sL T 3 (24 * wN w + 0) ((fun j => S.2.2 3 (24 * (wN w - 1) + j)) (dfK w))) s H locs) => ?_)
                have hd := hd.row (j := 0) (by omega) ((fun j => S.2.2 3 (24 * (wN w - 1) + j)) (dfK w))
                refine lv_iload hx hb dX4_drifts_244 (lv_at hl 4 rfl) ?_
                refine lv_iconst (v := zI 3) hx hb dX4_drifts_246 (by decide +kernel) ?_
                refine g_cne (tgt := 266) hx hb dX4_drifts_247 (by decide) (by omega) (fun hq => ?_) (fun hq => ?_)
                · obtain ⟨U2, hU2⟩ : ∃ U2, U2 = (sL T 3 (24 * wN w + 0) ((fun j => S.2.2 3 (24 * (wN w - 1) + j)) (dfK w))) := ⟨_, rfl⟩
                  rw [← hU2] at hd hG
                  refine lv_aload_n hx hb dX4_drifts_266 rfl (lv_at hl 0 rfl) ?_
                  refine lv_iload_n hx hb dX4_drifts_267 rfl (lv_at hl 1 rfl) ?_
                  refine lv_iconst (v := zI 1) hx hb dX4_drifts_268 (by decide +kernel) ?_
                  refine g_isub hx hb dX4_drifts_269 ?_
                  refine g_topz (y := oI (some (wN w - 1))) (by rw [oI_some]; omega) ?_
                  obtain ⟨vv, hvv⟩ : ∃ vv, vv = dfV2 w := ⟨_, rfl⟩
                  obtain ⟨tt, htt⟩ : ∃ tt, tt = (dfT w).getD (dfK w) [] :: rmT (dfT w) (dfK w) := ⟨_, rfl⟩
                  have hd : dS S U2 (wN w) vv (((dfT w).length : Int)) (va_up g 0 ((fun j => S.2.2 3 (24 * (wN w - 1) + j)) (dfK w))) := by rw [hvv]; exact hd
                  have hR : dfR w = (tt, vv) := by rw [hvv, htt]; unfold dfR; rw [if_neg (by omega), if_neg (by omega), if_pos (by omega)]
                  have htx2 : txOK (dfR w).1 := dfR_ok htx
                  rw [hR] at htx2
                  have htx2 : txOK tt := htx2
                  have hlen : ((dfT w).length : Int) = (tt.length : Nat) := by rw [htt]; all_goals (exact (by rw [List.length_cons, rmT_len (by omega)]; omega))
                  have hrow : ∀ i9, i9 < tt.length → va_up g 0 ((fun j => S.2.2 3 (24 * (wN w - 1) + j)) (dfK w)) i9 = lnZ (tt.getD i9 []) := by intro i9 hi; rw [htt] at hi ⊢; exact (by rw [List.length_cons, rmT_len (by omega)] at hi; exact frRow (by omega) hg hg0 i9 (by omega))
                  refine m_ci (va_runV (As := [.int (zI (oI (some (wN w - 1))))]) (rest := []) ⟨hx, hb, hml, hown, hts⟩ (metX4_comesTo (w := wSeedTo w vv) (fo := some (wN w - 1)) (t := tt) (hd.o hO hK) (hK.seedTo vv) (show wN (wSeedTo w vv) < 16 from hn1.2) (fun f hf => by cases hf; show wN w - 1 < wN w; omega) htx2 (hd.2.2.1.1.trans hlen) (fun i9 hi => (hd.2.2.2.2.1 i9 (by have := htx2.1; omega)).trans (hrow i9 hi))) (cwV 1 hts (lw_V q3493 q3495 qs51 q102 q3496) rfl rfl rfl (by decide +kernel) ⟨Nat.le_of_ble_eq_true rfl, Nat.le_of_ble_eq_true rfl⟩) (m_preV hG) rfl rfl hl.1 rfl (lv_room (Nat.le_of_ble_eq_true rfl)) dX4_drifts_270 ⟨Nat.le_of_ble_eq_true rfl, Nat.le_of_ble_eq_true rfl⟩) hG (fun r_41 S_42 H locs hp hG => ?_)
                  obtain ⟨rfl, hO9, hk14⟩ := hp
                  have hG : mW X mo ad S_42 s H locs := hG
                  refine lv_pop hx hb dX4_drifts_273 rfl ?_
                  exact m_vret hx hb hr hlocks hG (⟨by unfold wDrift; rw [hR]; exact hO9, hd.kd hk14⟩) ⟨Nat.le_of_ble_eq_true rfl, Nat.le_of_ble_eq_true rfl⟩ dX4_drifts_274
                · exfalso; omega
              · obtain ⟨i, rfl⟩ : ∃ q, i = q + 1 := ⟨i - 1, by omega⟩
                have hl : lv_has ls 9 [(0, .ref mo), (1, .int (zI (wN w : Int))), (2, .int (zI (24 * (wN w : Int)))), (3, .int (zI ((dfT w).length : Int))), (4, .int (zI 2)), (5, .int (zI (dfK w : Int))), (6, .long ((fun j => S.2.2 3 (24 * (wN w - 1) + j)) (dfK w))), (8, .int (zI ((i + 1 : Nat) : Int)))] := by exact hl
                refine lv_aload_n hx hb dX4_drifts_210 rfl (lv_at hl 0 rfl) ?_
                refine m_get 3 (by decide) (v := .ref (ad 3)) rfl hx hb hts hown hG (hts _ q3299) dX4_drifts_211 ?_
                refine lv_iload_n hx hb dX4_drifts_214 rfl (lv_at hl 2 rfl) ?_
                refine lv_iload hx hb dX4_drifts_215 (lv_at hl 7 rfl) ?_
                refine g_iadd hx hb dX4_drifts_217 ?_
                refine lv_aload_n hx hb dX4_drifts_218 rfl (lv_at hl 0 rfl) ?_
                refine m_get 3 (by decide) (v := .ref (ad 3)) rfl hx hb hts hown hG (hts _ q3299) dX4_drifts_219 ?_
                refine lv_iload_n hx hb dX4_drifts_222 rfl (lv_at hl 2 rfl) ?_
                refine lv_iload hx hb dX4_drifts_223 (lv_at hl 7 rfl) ?_
                refine g_iadd hx hb dX4_drifts_225 ?_
                refine lv_iconst (v := zI 1) hx hb dX4_drifts_226 (by decide +kernel) ?_
                refine g_isub hx hb dX4_drifts_227 ?_
                refine m_lald 3 rfl rfl (24 * wN w + i) (v := (g i)) ⟨by omega, by show _ < 408; omega⟩ (hd.2.2.2.2.1 i (by omega)) hx hb hG dX4_drifts_228 ?_
                refine m_last 3 rfl rfl (24 * wN w + (i + 1)) ⟨by omega, by show _ < 408; omega⟩ hx hb hG dX4_drifts_229 (fun H locs (hG : mW X mo ad (sL T 3 (24 * wN w + (i + 1)) (g i)) s H locs) => ?_)
                refine lv_iinc (v := zI (((i + 1 : Nat) : Int) - 1 : Int)) (lv' := [(8, .int (zI (((i + 1 : Nat) : Int) - 1 : Int))), (0, .ref mo), (1, .int (zI (wN w : Int))), (2, .int (zI (24 * (wN w : Int)))), (3, .int (zI ((dfT w).length : Int))), (4, .int (zI 2)), (5, .int (zI (dfK w : Int))), (6, .long ((fun j => S.2.2 3 (24 * (wN w - 1) + j)) (dfK w)))]) hx hb dX4_drifts_230 hl (k := 7) rfl ((zI_add _ _).trans (congrArg zI (by omega))) (by decide) rfl (fun ls hl => ?_)
                refine lv_goto (tgt := 205) hx hb dX4_drifts_233 (by decide) ?_
                have hl : lv_has ls 9 [(8, .int (zI (i : Int))), (0, .ref mo), (1, .int (zI (wN w : Int))), (2, .int (zI (24 * (wN w : Int)))), (3, .int (zI ((dfT w).length : Int))), (4, .int (zI 2)), (5, .int (zI (dfK w : Int))), (6, .long ((fun j => S.2.2 3 (24 * (wN w - 1) + j)) (dfK w)))] := by rw [show ((i + 1 : Nat) : Int) - 1 = (i : Int) by omega] at hl; exact hl
                exact ihM i (by omega) H locs ls ⟨i, _, _, ⟨by omega, rfl, hd.row (by omega) _, fun j => by by_cases hj : j = i + 1; (subst hj; rw [va_up_self, if_pos (by omega), hg i, if_neg (by omega), show i + 1 - 1 = i by omega]); (rw [va_up_ne _ _ hj, hg j]; by_cases h1 : i + 1 < j ∧ j ≤ dfK w; (rw [if_pos h1, if_pos (by omega)]); (rw [if_neg h1, if_neg (by omega)]))⟩, hG, (lv_sub hl [1, 2, 3, 4, 5, 6, 7, 0] rfl)⟩
        · exfalso; omega
      · exfalso; omega
    · have hl : lv_has ls 9 [(5, .int (zI (dfK w : Int))), (4, .int (zI 3)), (3, .int (zI ((dfT w).length : Int))), (2, .int (zI (24 * (wN w : Int)))), (1, .int (zI (wN w : Int))), (0, .ref mo)] := by rw [hA] at hl; exact hl
      refine lv_iload hx hb dX4_drifts_46 (lv_at hl 1 rfl) ?_
      refine g_ne (tgt := 122) hx hb dX4_drifts_48 (by decide) (by decide) (fun hq => ?_) (fun hq => ?_)
      · refine lv_iload hx hb dX4_drifts_122 (lv_at hl 1 rfl) ?_
        refine lv_iconst (v := zI 1) hx hb dX4_drifts_124 (by decide +kernel) ?_
        refine g_cne (tgt := 180) hx hb dX4_drifts_125 (by decide) (by omega) (fun hq => ?_) (fun hq => ?_)
        · refine lv_iload hx hb dX4_drifts_180 (lv_at hl 1 rfl) ?_
          refine lv_iconst (v := zI 2) hx hb dX4_drifts_182 (by decide +kernel) ?_
          refine g_cne (tgt := 244) hx hb dX4_drifts_183 (by decide) (by omega) (fun hq => ?_) (fun hq => ?_)
          · refine lv_iload hx hb dX4_drifts_244 (lv_at hl 1 rfl) ?_
            refine lv_iconst (v := zI 3) hx hb dX4_drifts_246 (by decide +kernel) ?_
            refine g_cne (tgt := 266) hx hb dX4_drifts_247 (by decide) (by omega) (fun hq => ?_) (fun hq => ?_)
            · exfalso; omega
            · refine lv_iload_n hx hb dX4_drifts_250 rfl (lv_at hl 2 rfl) ?_
              refine g_le (tgt := 266) hx hb dX4_drifts_251 (by decide) (by omega) (fun h5 => ?_) (fun h5 => ?_)
              · refine lv_aload_n hx hb dX4_drifts_266 rfl (lv_at hl 5 rfl) ?_
                refine lv_iload_n hx hb dX4_drifts_267 rfl (lv_at hl 4 rfl) ?_
                refine lv_iconst (v := zI 1) hx hb dX4_drifts_268 (by decide +kernel) ?_
                refine g_isub hx hb dX4_drifts_269 ?_
                refine g_topz (y := oI (some (wN w - 1))) (by rw [oI_some]; omega) ?_
                obtain ⟨vv, hvv⟩ : ∃ vv, vv = dfV2 w := ⟨_, rfl⟩
                obtain ⟨tt, htt⟩ : ∃ tt, tt = dfT w := ⟨_, rfl⟩
                have hd : dS S U (wN w) vv (((dfT w).length : Int)) ((fun j => S.2.2 3 (24 * (wN w - 1) + j))) := by rw [hvv]; exact hd
                have hR : dfR w = (tt, vv) := by rw [hvv, htt]; unfold dfR; rw [if_neg (by omega), if_neg (by omega), if_neg (by omega), if_neg (by omega)]
                have htx2 : txOK (dfR w).1 := dfR_ok htx
                rw [hR] at htx2
                have htx2 : txOK tt := htx2
                have hlen : ((dfT w).length : Int) = (tt.length : Nat) := by rw [htt]; all_goals (exact rfl)
                have hrow : ∀ i9, i9 < tt.length → (fun j => S.2.2 3 (24 * (wN w - 1) + j)) i9 = lnZ (tt.getD i9 []) := by intro i9 hi; rw [htt] at hi ⊢; exact (hg0 i9 hi)
                refine m_ci (va_runV (As := [.int (zI (oI (some (wN w - 1))))]) (rest := []) ⟨hx, hb, hml, hown, hts⟩ (metX4_comesTo (w := wSeedTo w vv) (fo := some (wN w - 1)) (t := tt) (hd.o hO hK) (hK.seedTo vv) (show wN (wSeedTo w vv) < 16 from hn1.2) (fun f hf => by cases hf; show wN w - 1 < wN w; omega) htx2 (hd.2.2.1.1.trans hlen) (fun i9 hi => (hd.2.2.2.2.1 i9 (by have := htx2.1; omega)).trans (hrow i9 hi))) (cwV 1 hts (lw_V q3493 q3495 qs51 q102 q3496) rfl rfl rfl (by decide +kernel) ⟨Nat.le_of_ble_eq_true rfl, Nat.le_of_ble_eq_true rfl⟩) (m_preV hG) rfl rfl hl.1 rfl (lv_room (Nat.le_of_ble_eq_true rfl)) dX4_drifts_270 ⟨Nat.le_of_ble_eq_true rfl, Nat.le_of_ble_eq_true rfl⟩) hG (fun r_43 S_44 H locs hp hG => ?_)
                obtain ⟨rfl, hO9, hk14⟩ := hp
                have hG : mW X mo ad S_44 s H locs := hG
                refine lv_pop hx hb dX4_drifts_273 rfl ?_
                exact m_vret hx hb hr hlocks hG (⟨by unfold wDrift; rw [hR]; exact hO9, hd.kd hk14⟩) ⟨Nat.le_of_ble_eq_true rfl, Nat.le_of_ble_eq_true rfl⟩ dX4_drifts_274
              · refine lv_aload_n hx hb dX4_drifts_254 rfl (lv_at hl 5 rfl) ?_
                refine m_get 3 (by decide) (v := .ref (ad 3)) rfl hx hb hts hown hG (hts _ q3299) dX4_drifts_255 ?_
                refine lv_iload_n hx hb dX4_drifts_258 rfl (lv_at hl 3 rfl) ?_
                refine lv_iload hx hb dX4_drifts_259 (lv_at hl 0 rfl) ?_
                refine g_iadd hx hb dX4_drifts_261 ?_
                refine lv_ldc2 (v := 122) hx hb hown (hts _ q3701) dX4_drifts_262 ?_
                refine m_last 3 rfl rfl (24 * wN w + dfK w) ⟨by omega, by show _ < 408; omega⟩ hx hb hG dX4_drifts_265 (fun H locs (hG : mW X mo ad (sL U 3 (24 * wN w + dfK w) (122 : Int64)) s H locs) => ?_)
                have hd := hd.row (j := dfK w) (by omega) 122
                obtain ⟨U2, hU2⟩ : ∃ U2, U2 = (sL U 3 (24 * wN w + dfK w) (122 : Int64)) := ⟨_, rfl⟩
                rw [← hU2] at hd hG
                refine lv_aload_n hx hb dX4_drifts_266 rfl (lv_at hl 5 rfl) ?_
                refine lv_iload_n hx hb dX4_drifts_267 rfl (lv_at hl 4 rfl) ?_
                refine lv_iconst (v := zI 1) hx hb dX4_drifts_268 (by decide +kernel) ?_
                refine g_isub hx hb dX4_drifts_269 ?_
                refine g_topz (y := oI (some (wN w - 1))) (by rw [oI_some]; omega) ?_
                obtain ⟨vv, hvv⟩ : ∃ vv, vv = dfV2 w := ⟨_, rfl⟩
                obtain ⟨tt, htt⟩ : ∃ tt, tt = (dfT w).set (dfK w) [122] := ⟨_, rfl⟩
                have hd : dS S U2 (wN w) vv (((dfT w).length : Int)) (va_up (fun j => S.2.2 3 (24 * (wN w - 1) + j)) (dfK w) 122) := by rw [hvv]; exact hd
                have hR : dfR w = (tt, vv) := by rw [hvv, htt]; unfold dfR; rw [if_neg (by omega), if_neg (by omega), if_neg (by omega), if_pos (by omega)]
                have htx2 : txOK (dfR w).1 := dfR_ok htx
                rw [hR] at htx2
                have htx2 : txOK tt := htx2
                have hlen : ((dfT w).length : Int) = (tt.length : Nat) := by rw [htt]; all_goals (exact (by rw [List.length_set]))
                have hrow : ∀ i9, i9 < tt.length → va_up (fun j => S.2.2 3 (24 * (wN w - 1) + j)) (dfK w) 122 i9 = lnZ (tt.getD i9 []) := by intro i9 hi; rw [htt] at hi ⊢; exact (by rw [List.length_set] at hi; rw [gD_set _ _ _ _ (hkR.2 (by omega))]; by_cases h9 : i9 = dfK w; (subst h9; rw [va_up_self, if_pos rfl]; rfl); (rw [va_up_ne _ _ h9, if_neg h9]; exact hg0 _ hi))
                refine m_ci (va_runV (As := [.int (zI (oI (some (wN w - 1))))]) (rest := []) ⟨hx, hb, hml, hown, hts⟩ (metX4_comesTo (w := wSeedTo w vv) (fo := some (wN w - 1)) (t := tt) (hd.o hO hK) (hK.seedTo vv) (show wN (wSeedTo w vv) < 16 from hn1.2) (fun f hf => by cases hf; show wN w - 1 < wN w; omega) htx2 (hd.2.2.1.1.trans hlen) (fun i9 hi => (hd.2.2.2.2.1 i9 (by have := htx2.1; omega)).trans (hrow i9 hi))) (cwV 1 hts (lw_V q3493 q3495 qs51 q102 q3496) rfl rfl rfl (by decide +kernel) ⟨Nat.le_of_ble_eq_true rfl, Nat.le_of_ble_eq_true rfl⟩) (m_preV hG) rfl rfl hl.1 rfl (lv_room (Nat.le_of_ble_eq_true rfl)) dX4_drifts_270 ⟨Nat.le_of_ble_eq_true rfl, Nat.le_of_ble_eq_true rfl⟩) hG (fun r_45 S_46 H locs hp hG => ?_)
                obtain ⟨rfl, hO9, hk14⟩ := hp
                have hG : mW X mo ad S_46 s H locs := hG
                refine lv_pop hx hb dX4_drifts_273 rfl ?_
                exact m_vret hx hb hr hlocks hG (⟨by unfold wDrift; rw [hR]; exact hO9, hd.kd hk14⟩) ⟨Nat.le_of_ble_eq_true rfl, Nat.le_of_ble_eq_true rfl⟩ dX4_drifts_274
          · exfalso; omega
        · exfalso; omega
      · exfalso; omega

set_option maxHeartbeats 4000000 in
theorem metX4_drift {l : Launch} {X : gX} {mo : Nat} {ad : Nat → Nat} {S : mS} {a : aS} (hX : mX S a) (hA : aOK a) {n : Int} (hr0 : -2147483648 ≤ n ∧ n < 2147483648) : Met l yX4_drift (ws_ yX4_drift cX4_drift 3 (some FieldType.int)) ({ frames := 7, cells := 0, slots := 0, locals := 171 }) (mP X mo ad S [.ref mo, .int (zI n)]) (mQi X mo ad (fun u T => u = zI (opDrift a n).1 ∧ mX T (opDrift a n).2)) 0 0 (mA mo ad) := by
  refine Met.m (by decide) (Nat.le_of_ble_eq_true rfl) ?_
  intro p e s m below meth c ls hx hb hr hts hown hlocks hml hG hl
  have hl : lv_has ls 3 [(0, .ref mo), (1, .int (zI n))] := hl
  have hNN := hA.w.n
  have hMM := hA.w.m
  refine lv_aload_n hx hb dX4_drift_0 rfl (lv_at hl 0 rfl) ?_
  refine m_get 0 (by decide) (v := .int (zI (wN (aWd a) : Int))) (congrArg (fun z => Value.int (zI z)) (show S.1 0 = (wN (aWd a) : Int) from hX.o.n)) hx hb hts hown hG (hts _ q3296) dX4_drift_1 ?_
  refine g_ne (tgt := 14) hx hb dX4_drift_4 (by decide) (by omega) (fun h1 => ?_) (fun h1 => ?_)
  · refine lv_iload_n hx hb dX4_drift_14 rfl (lv_at hl 1 rfl) ?_
    refine lv_iconst (v := zI 1) hx hb dX4_drift_15 (by decide +kernel) ?_
    refine lv_bipush (v := zI 15) hx hb dX4_drift_16 (by decide +kernel) ?_
    refine m_ci (va_runS (As := [.int (zI n), .int (zI 1), .int (zI 15)]) (rest := []) ⟨hx, hb, hml, hown, hts⟩ (metX4_within (by omega)) (va_cwS 3 hts (lw_S q3424 q3425 q102 q3426) rfl rfl rfl (by decide +kernel) ⟨Nat.le_of_ble_eq_true rfl, Nat.le_of_ble_eq_true rfl⟩) (m_preS hG) rfl rfl hl.1 rfl (lv_room (Nat.le_of_ble_eq_true rfl)) dX4_drift_18 ⟨Nat.le_of_ble_eq_true rfl, Nat.le_of_ble_eq_true rfl⟩) hG (fun r_1 S_2 H locs hp hG => ?_)
    obtain ⟨bw2, rfl, hbw2, rfl⟩ := hp
    have hG : mW X mo ad S s H locs := hG
    refine g_ne (tgt := 31) hx hb dX4_drift_21 (by decide) (by omega) (fun h3 => ?_) (fun h3 => ?_)
    · refine lv_aload_n hx hb dX4_drift_31 rfl (lv_at hl 0 rfl) ?_
      refine m_get 0 (by decide) (v := .int (zI (wN (aWd a) : Int))) (congrArg (fun z => Value.int (zI z)) (show S.1 0 = (wN (aWd a) : Int) from hX.o.n)) hx hb hts hown hG (hts _ q3296) dX4_drift_32 ?_
      refine lv_iload_n hx hb dX4_drift_35 rfl (lv_at hl 1 rfl) ?_
      refine g_iadd hx hb dX4_drift_36 ?_
      refine lv_bipush (v := zI 16) hx hb dX4_drift_37 (by decide +kernel) ?_
      refine g_cle (tgt := 49) hx hb dX4_drift_39 (by decide) (by omega) (fun h4 => ?_) (fun h4 => ?_)
      · obtain ⟨n1, rfl⟩ : ∃ n9 : Nat, n = n9 := ⟨n.toNat, by omega⟩
        refine lv_iconst (v := zI 0) hx hb dX4_drift_49 (by decide +kernel) ?_
        refine lv_istore_n (lv' := [(2, .int (zI 0)), (0, .ref mo), (1, .int (zI (n1 : Int)))]) hx hb dX4_drift_50 rfl hl (by decide) rfl (fun ls hl => ?_)
        have hl : lv_has ls 3 [(2, .int (zI ((0 : Nat) : Int))), (0, .ref mo), (1, .int (zI (n1 : Int)))] := by exact hl
        refine g_loop (fun mz H locs ls => ∃ (k : Nat) (T : mS), (k ≤ n1 ∧ mz = n1 - k ∧ mO T (wDrifts (aWd a) k) ∧ mKd S T) ∧ mW X mo ad T s H locs ∧ lv_has ls 3 [(0, .ref mo), (1, .int (zI (n1 : Int))), (2, .int (zI (k : Int)))]) (n1 - 0) ⟨0, S, ⟨Nat.zero_le _, rfl, hX.o, mKd.rf⟩, hG, (lv_sub hl [1, 2, 0] rfl)⟩ (fun mz ihD H locs ls hI => ?_)
        obtain ⟨k, T, ⟨hk, hmz, hOk, hkd⟩, hG, hl⟩ := hI
        have hNk := wDrifts_N (aWd a) k
        have hKk := hA.w.drifts (by omega) k (by omega)
        refine lv_iload_n hx hb dX4_drift_51 rfl (lv_at hl 2 rfl) ?_
        refine lv_iload_n hx hb dX4_drift_52 rfl (lv_at hl 1 rfl) ?_
        refine g_cge (tgt := 66) hx hb dX4_drift_53 (by decide) (by omega) (fun h3 => ?_) (fun h3 => ?_)
        · have hkn : k = n1 := by omega
          subst hkn
          refine lv_aload_n hx hb dX4_drift_66 rfl (lv_at hl 0 rfl) ?_
          refine m_get 0 (by decide) (v := .int (zI (wN (wDrifts (aWd a) k) : Int))) (congrArg (fun z => Value.int (zI z)) (show T.1 0 = (wN (wDrifts (aWd a) k) : Int) from hOk.n)) hx hb hts hown hG (hts _ q3296) dX4_drift_67 ?_
          refine lv_iconst (v := zI 1) hx hb dX4_drift_70 (by decide +kernel) ?_
          refine g_isub hx hb dX4_drift_71 ?_
          exact m_iret hx hb hr hlocks hG (by rw [show opDrift a k = (wN (aWd a) + (k : Int) - 1, aSetW a (wDrifts (aWd a) k)) from by unfold opDrift; rw [if_neg (by omega), if_neg (by omega), if_neg (by omega)]; rfl]; exact ⟨congrArg zI (by omega), hX.dr hOk hkd⟩) ⟨Nat.le_of_ble_eq_true rfl, Nat.le_of_ble_eq_true rfl⟩ dX4_drift_72
        · refine lv_aload_n hx hb dX4_drift_56 rfl (lv_at hl 0 rfl) ?_
          refine m_cv (va_runV (As := []) (rest := []) ⟨hx, hb, hml, hown, hts⟩ (metX4_drifts (w := wDrifts (aWd a) k) hOk hKk ⟨by omega, by omega⟩) (cwV 0 hts (lw_V q3692 q3694 qs78 q102 q3695) rfl rfl rfl (by decide +kernel) ⟨Nat.le_of_ble_eq_true rfl, Nat.le_of_ble_eq_true rfl⟩) (m_preV hG) rfl rfl hl.1 rfl (lv_room (Nat.le_of_ble_eq_true rfl)) dX4_drift_57 ⟨Nat.le_of_ble_eq_true rfl, Nat.le_of_ble_eq_true rfl⟩) hG (fun S_4 H locs hp hG => ?_)
          obtain ⟨hO9, hk9⟩ := hp
          have hG : mW X mo ad S_4 s H locs := hG
          refine lv_iinc (v := zI ((k : Int) + 1 : Int)) (lv' := [(2, .int (zI ((k : Int) + 1 : Int))), (0, .ref mo), (1, .int (zI (n1 : Int)))]) hx hb dX4_drift_60 hl (k := 2) rfl ((zI_add _ _).trans (congrArg zI (by omega))) (by decide) rfl (fun ls hl => ?_)
          refine lv_goto (tgt := 51) hx hb dX4_drift_63 (by decide) ?_
          have hl : lv_has ls 3 [(2, .int (zI ((k + 1 : Nat) : Int))), (0, .ref mo), (1, .int (zI (n1 : Int)))] := by exact hl
          exact ihD (n1 - (k + 1)) (by omega) H locs ls ⟨(k + 1), S_4, ⟨by omega, rfl, hO9, hkd.tr hk9⟩, hG, (lv_sub hl [1, 2, 0] rfl)⟩
      · refine lv_aload_n hx hb dX4_drift_42 rfl (lv_at hl 0 rfl) ?_
        refine lv_bipush (v := zI (-7)) hx hb dX4_drift_43 (by decide +kernel) ?_
        refine g_topz (y := -((7 : Nat) : Int)) (by decide) ?_
        refine m_ci (va_runV (As := [.int (zI (-((7 : Nat) : Int)))]) (rest := []) ⟨hx, hb, hml, hown, hts⟩ (metX4_no 7 (by decide)) (cwV 1 hts (lw_V q3427 q3429 qs43 q102 q3430) rfl rfl rfl (by decide +kernel) ⟨Nat.le_of_ble_eq_true rfl, Nat.le_of_ble_eq_true rfl⟩) (m_preV hG) rfl rfl hl.1 rfl (lv_room (Nat.le_of_ble_eq_true rfl)) dX4_drift_45 ⟨Nat.le_of_ble_eq_true rfl, Nat.le_of_ble_eq_true rfl⟩) hG (fun r_5 S_6 H locs hp hG => ?_)
        obtain ⟨rfl, rfl⟩ := hp
        have hG : mW X mo ad (mNo S 7) s H locs := hG
        exact m_iret hx hb hr hlocks hG (by first | (exfalso; omega) | exact (hX.noR 7 (by unfold opDrift; all_goals ((repeat (first | rw [if_pos (by omega)] | rw [if_neg (by omega)])) <;> rfl)))) ⟨Nat.le_of_ble_eq_true rfl, Nat.le_of_ble_eq_true rfl⟩ dX4_drift_48
    · refine lv_aload_n hx hb dX4_drift_24 rfl (lv_at hl 0 rfl) ?_
      refine lv_bipush (v := zI (-6)) hx hb dX4_drift_25 (by decide +kernel) ?_
      refine g_topz (y := -((6 : Nat) : Int)) (by decide) ?_
      refine m_ci (va_runV (As := [.int (zI (-((6 : Nat) : Int)))]) (rest := []) ⟨hx, hb, hml, hown, hts⟩ (metX4_no 6 (by decide)) (cwV 1 hts (lw_V q3427 q3429 qs43 q102 q3430) rfl rfl rfl (by decide +kernel) ⟨Nat.le_of_ble_eq_true rfl, Nat.le_of_ble_eq_true rfl⟩) (m_preV hG) rfl rfl hl.1 rfl (lv_room (Nat.le_of_ble_eq_true rfl)) dX4_drift_27 ⟨Nat.le_of_ble_eq_true rfl, Nat.le_of_ble_eq_true rfl⟩) hG (fun r_7 S_8 H locs hp hG => ?_)
      obtain ⟨rfl, rfl⟩ := hp
      have hG : mW X mo ad (mNo S 6) s H locs := hG
      exact m_iret hx hb hr hlocks hG (by first | (exfalso; omega) | exact (hX.noR 6 (by unfold opDrift; all_goals ((repeat (first | rw [if_pos (by omega)] | rw [if_neg (by omega)])) <;> rfl)))) ⟨Nat.le_of_ble_eq_true rfl, Nat.le_of_ble_eq_true rfl⟩ dX4_drift_30
  · refine lv_aload_n hx hb dX4_drift_7 rfl (lv_at hl 0 rfl) ?_
    refine lv_bipush (v := zI (-5)) hx hb dX4_drift_8 (by decide +kernel) ?_
    refine g_topz (y := -((5 : Nat) : Int)) (by decide) ?_
    refine m_ci (va_runV (As := [.int (zI (-((5 : Nat) : Int)))]) (rest := []) ⟨hx, hb, hml, hown, hts⟩ (metX4_no 5 (by decide)) (cwV 1 hts (lw_V q3427 q3429 qs43 q102 q3430) rfl rfl rfl (by decide +kernel) ⟨Nat.le_of_ble_eq_true rfl, Nat.le_of_ble_eq_true rfl⟩) (m_preV hG) rfl rfl hl.1 rfl (lv_room (Nat.le_of_ble_eq_true rfl)) dX4_drift_10 ⟨Nat.le_of_ble_eq_true rfl, Nat.le_of_ble_eq_true rfl⟩) hG (fun r_9 S_10 H locs hp hG => ?_)
    obtain ⟨rfl, rfl⟩ := hp
    have hG : mW X mo ad (mNo S 5) s H locs := hG
    exact m_iret hx hb hr hlocks hG (by first | (exfalso; omega) | exact (hX.noR 5 (by unfold opDrift; all_goals ((repeat (first | rw [if_pos (by omega)] | rw [if_neg (by omega)])) <;> rfl)))) ⟨Nat.le_of_ble_eq_true rfl, Nat.le_of_ble_eq_true rfl⟩ dX4_drift_13

