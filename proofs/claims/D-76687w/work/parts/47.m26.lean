set_option maxRecDepth 100000
abbrev Rd : Type := Tx × Ln × Option Nat
def rdStep (x : Rd) (i : Nat) (z : Int) : Rd := if x.2.2 ≠ none then x else if z = 47 ∧ x.2.1 ≠ [] ∧ x.1.length < 23 then (x.1 ++ [x.2.1], [], none) else if ¬ (97 ≤ z ∧ z ≤ 122) ∨ x.2.1.length = 8 then (x.1, x.2.1, some i) else (x.1, x.2.1 ++ [z.toNat], none)
/-- a text read: lines, the latest one's letters, the fault -/
def rdF (f : Nat → Int) : Nat → Rd
  | 0 => ([], [], none)
  | i + 1 => rdStep (rdF f i) i (f i)
def rdR (f : Nat → Int) (n : Nat) : Tx ⊕ Nat := match (rdF f n).2.2 with
  | some i => .inr i
  | none => if n = 0 then .inl [] else if (rdF f n).2.1 = [] then .inr n else .inl ((rdF f n).1 ++ [(rdF f n).2.1])
def rdZ : Tx ⊕ Nat → Int
  | .inl _ => -1
  | .inr k => (k : Nat)
theorem rdF_bad {f : Nat → Int} {i k : Nat} (h : (rdF f i).2.2 = some k) : ∀ n, rdF f (i + n) = rdF f i := by
  intro n
  induction n with
  | zero => rfl
  | succ n ih =>
    show rdStep (rdF f (i + n)) (i + n) (f (i + n)) = _
    rw [ih]; unfold rdStep; rw [if_pos (by rw [h]; exact nofun)]
theorem rdF_at {f : Nat → Int} {i : Nat} {dn : Tx} {nw : Ln} (h : rdF f i = (dn, nw, none)) (hf : f i ≠ 47 ∨ nw = [] ∨ 23 ≤ dn.length) (hb : ¬ (97 ≤ f i ∧ f i ≤ 122) ∨ nw.length = 8) {n : Nat} (hn : i < n) : rdR f n = .inr i := by
  have e : rdF f (i + 1) = (dn, nw, some i) := by
    show rdStep (rdF f i) i (f i) = _
    rw [h]; unfold rdStep
    rw [if_neg (fun q => q rfl), if_neg (by rintro ⟨q1, q2, q3⟩; rcases hf with hf | hf | hf; exact hf q1; exact q2 hf; exact absurd q3 (by show ¬ dn.length < 23; omega)), if_pos hb]
  have e2 : rdF f n = (dn, nw, some i) := by
    have := rdF_bad (f := f) (i := i + 1) (k := i) (by rw [e]) (n - (i + 1))
    rw [show i + 1 + (n - (i + 1)) = n by omega] at this; rw [this, e]
  unfold rdR; rw [e2]
theorem rdF_ends {f : Nat → Int} {i : Nat} {dn : Tx} {nw : Ln} (h : rdF f i = (dn, nw, none)) (h1 : f i = 47) (h2 : 0 < nw.length) (h3 : dn.length < 23) : rdF f (i + 1) = (dn ++ [nw], [], none) := by
  show rdStep (rdF f i) i (f i) = _
  rw [h]; unfold rdStep
  rw [if_neg (fun q => q rfl), if_pos ⟨h1, fun q => by have q : nw = [] := q; rw [q] at h2; exact absurd h2 (by decide), h3⟩]
theorem rdF_goes {f : Nat → Int} {i : Nat} {dn : Tx} {nw : Ln} (h : rdF f i = (dn, nw, none)) (h1 : 97 ≤ f i ∧ f i ≤ 122) (h2 : nw.length ≠ 8) : rdF f (i + 1) = (dn, nw ++ [(f i).toNat], none) := by
  show rdStep (rdF f i) i (f i) = _
  rw [h]; unfold rdStep
  rw [if_neg (fun q => q rfl), if_neg (fun q => by have := q.1; omega), if_neg (by rintro (q | q); exact q h1; exact h2 q)]
theorem lnN_app (t : Ln) (x : Nat) : lnN (t ++ [x]) = lnN t + 256 ^ t.length * x := by
  induction t with
  | nil => show x + 256 * 0 = 0 + 256 ^ 0 * x; omega
  | cons y t ih =>
    show y + 256 * lnN (t ++ [x]) = y + 256 * lnN t + 256 ^ (t.length + 1) * x
    rw [ih, Nat.pow_succ, Nat.mul_add, Nat.mul_comm (256 ^ t.length) 256, Nat.mul_assoc]
    omega
theorem zL_or (x y k : Nat) (hx : x < 2 ^ k) (h : 2 ^ k * y + x < 9223372036854775808) : zL (x : Int) ||| zL ((2 ^ k * y : Nat) : Int) = zL ((2 ^ k * y + x : Nat) : Int) := by
  refine zL_ofN ?_ h
  rw [Int64.toBitVec_or, BitVec.toNat_or, zL_bv _ (by omega), zL_bv _ (by omega), Nat.or_comm, Nat.two_pow_add_eq_or_of_lt hx]
theorem lnZ_or {t : Ln} (h : ∀ x ∈ t, x ≤ 122) (hk : t.length < 8) {z : Int} (hz : 97 ≤ z ∧ z ≤ 122) : lnZ t ||| (zL z <<< ((zI (8 * (t.length : Int))).toInt64 &&& 63)) = lnZ (t ++ [z.toNat]) := by
  have h1 := lnN_lt t h t.length (Nat.le_refl _)
  have hz2 : (zL z).toInt = z := zL_toInt ⟨by omega, by omega⟩
  have hs : (256 : Nat) ^ t.length = 2 ^ (8 * t.length) := by rw [Nat.pow_mul]
  have hle : 2 ^ (8 * t.length) ≤ 72057594037927936 := Nat.le_trans (Nat.pow_le_pow_right (by decide) (show 8 * t.length ≤ 56 by omega)) (by decide)
  have hm : 2 ^ (8 * t.length) * z.toNat ≤ 72057594037927936 * 122 := Nat.mul_le_mul hle (by omega)
  have e : zL z <<< ((zI (8 * (t.length : Int))).toInt64 &&& 63) = zL ((2 ^ (8 * t.length) * z.toNat : Nat) : Int) := by
    rw [zL_of (zL z <<< ((zI (8 * (t.length : Int))).toInt64 &&& 63))]
    congr 1
    have hzz : z = (z.toNat : Nat) := by omega
    have hp : z * 2 ^ (8 * t.length) = ((2 ^ (8 * t.length) * z.toNat : Nat) : Int) := by
      rw [Int.natCast_mul, Int.natCast_pow, ← hzz]; exact Int.mul_comm _ _
    rw [Jvm.Kit.i64_shl (k := 8 * t.length) _ _ (by rcases (show t.length = 0 ∨ t.length = 1 ∨ t.length = 2 ∨ t.length = 3 ∨ t.length = 4 ∨ t.length = 5 ∨ t.length = 6 ∨ t.length = 7 by omega) with q | q | q | q | q | q | q | q <;> rw [q] <;> decide +kernel) (by rw [hz2, hp]; omega) (by rw [hz2, hp]; omega), hz2, hp]
  rw [e]
  show zL ((lnN t : Nat) : Int) ||| _ = zL ((lnN (t ++ [z.toNat]) : Nat) : Int)
  rw [lnN_app, hs, zL_or _ _ _ (by rw [← hs]; omega) (by rw [hs] at h1; omega), Nat.add_comm]
def opRevise (a : aS) (v fo : Int) : Int × aS := if ¬ ((0 ≤ v ∧ v ≤ 7) ∧ (fo = -1 ∨ (0 ≤ fo ∧ fo < wN (aWd a)))) then aNoR a 1 else match aSv a v.toNat with
  | none => aNoR a 3
  | some (.inl _) => aNoR a 2
  | some (.inr (_, n, f)) => match rdR (rwI f) n with
    | .inr k => aNoR (aSetF a k) 6
    | .inl t => if wN (aWd a) = 16 then aNoR (aSetF a (-1)) 7 else (wN (aWd a), aSetW (aSetF a (-1)) (wAdd (aWd a) (iO fo) t))
/-- what reading a text leaves -/
def mRd (S T : mS) (r : Nat) : Prop := T.1 = S.1 ∧ (∀ j, j ≠ r → T.2.1 2 j = S.2.1 2 j) ∧ (∀ k, k ≠ 2 → T.2.1 k = S.2.1 k) ∧ (∀ x, x < 24 * r → T.2.2 3 x = S.2.2 3 x) ∧ ∀ k, k ≠ 3 → T.2.2 k = S.2.2 k
theorem mRd.rf {S : mS} {r : Nat} : mRd S S r := ⟨rfl, fun _ _ => rfl, fun _ _ => rfl, fun _ _ => rfl, fun _ _ => rfl⟩
theorem mRd.L {S T : mS} {r i : Nat} {z : Int64} (h : mRd S T r) (hi : 24 * r ≤ i) : mRd S (sL T 3 i z) r := ⟨h.1, h.2.1, h.2.2.1, fun x hx => (sL_n (by omega)).trans (h.2.2.2.1 x hx), fun k hk => (sL_o hk).trans (h.2.2.2.2 k hk)⟩
theorem mRd.A {S T : mS} {r : Nat} {z : Int} (h : mRd S T r) : mRd S (sA T 2 r z) r := ⟨h.1, fun j hj => (sA_n hj).trans (h.2.1 j hj), fun k hk => (sA_o hk).trans (h.2.2.1 k hk), h.2.2.2⟩
theorem mO.rd {S T : mS} {w : aW} (h : mO S w) (k : wOK w) (e : mRd S T (wN w)) : mO T w := by
  obtain ⟨h1, hr, hc, hm, h5, h6⟩ := h
  obtain ⟨e1, e2, e3, e4, e5⟩ := e
  have e7 := e3 7 (by decide)
  refine ⟨by rw [e1]; exact h1, ⟨fun q hq => ⟨?_, ?_, fun i hi => ?_⟩, by rw [e7]; exact hr.2⟩, ?_, ?_, by rw [e7]; exact h5, by rw [e7]; exact h6⟩
  · rw [e3 1 (by decide)]; exact hr.fo hq
  · rw [e2 q (by omega)]; exact hr.len hq
  · have := (k.tx hq).1
    rw [e4 _ (by omega)]; exact hr.ln hq hi
  · unfold mCm; rw [e3 4 (by decide)]; exact hc
  · unfold mRk; rw [e3 6 (by decide)]; exact hm
theorem mX.rd {S T : mS} {a : aS} (h : mX S a) (k : aOK a) (e : mRd S T (wN (aWd a))) (z : Int) : mX (sI T 12 z) (aSetF a z) := by
  have ho := (mX.o h).rd k.w e
  obtain ⟨e1, e2, e3, e4, e5⟩ := e
  exact ⟨ho.cg ⟨⟨rfl, rfl, rfl⟩, ⟨rfl, rfl, rfl, rfl, rfl⟩, rfl⟩,
   h.2.1.cg ⟨⟨congrFun e1 16, congrFun e1 17, congrFun e1 21, congrFun e1 24⟩, ⟨e3 18 (by decide), e3 19 (by decide), e3 22 (by decide), e3 23 (by decide)⟩, e5 20 (by decide)⟩,
   fun s hs => (h.2.2.1 s hs).cg' ⟨e3 9 (by decide), e3 10 (by decide), e5 11 (by decide)⟩,
   fun j hj => (congrFun (e3 15 (by decide)) j).trans (h.2.2.2.1 j hj), sI_s, h.2.2.2.2.2.cg ⟨congrFun e1 13, e3 14 (by decide)⟩⟩
theorem aOK.fault {a : aS} (k : aOK a) {z : Int} (hz : -1 ≤ z ∧ z ≤ 160) : aOK (aSetF a z) := ⟨k.1, k.2.1, hz, k.2.2.2⟩
theorem rdF_sz {f : Nat → Int} : ∀ i, (rdF f i).1.length ≤ 23 ∧ (rdF f i).2.1.length ≤ 8 ∧ (∀ c ∈ (rdF f i).1, lnOK c) ∧ (∀ x ∈ (rdF f i).2.1, 97 ≤ x ∧ x ≤ 122) ∧ ∀ k, (rdF f i).2.2 = some k → k < i := by
  intro i
  induction i with
  | zero => exact ⟨Nat.zero_le _, Nat.zero_le _, (fun x hx => by cases hx), (fun x hx => by cases hx), (fun k hk => by cases hk)⟩
  | succ i ih =>
    obtain ⟨h1, h2, h3, h4, h5⟩ := ih
    show (rdStep (rdF f i) i (f i)).1.length ≤ 23 ∧ (rdStep (rdF f i) i (f i)).2.1.length ≤ 8 ∧ (∀ c ∈ (rdStep (rdF f i) i (f i)).1, lnOK c) ∧ (∀ x ∈ (rdStep (rdF f i) i (f i)).2.1, 97 ≤ x ∧ x ≤ 122) ∧ ∀ k, (rdStep (rdF f i) i (f i)).2.2 = some k → k < i + 1
    unfold rdStep
    by_cases q : (rdF f i).2.2 ≠ none
    · rw [if_pos q]; exact ⟨h1, h2, h3, h4, fun k hk => by have := h5 k hk; omega⟩
    · rw [if_neg q]
      by_cases q1 : f i = 47 ∧ (rdF f i).2.1 ≠ [] ∧ (rdF f i).1.length < 23
      · rw [if_pos q1]
        refine ⟨by rw [List.length_append]; show _ + 1 ≤ 23; omega, Nat.zero_le _, fun c hc => ?_, (fun x hx => by cases hx), (fun k hk => by cases hk)⟩
        rcases List.mem_append.mp hc with hc | hc
        · exact h3 c hc
        · cases List.mem_singleton.mp hc; exact ⟨h2, h4⟩
      · rw [if_neg q1]
        by_cases q2 : ¬ (97 ≤ f i ∧ f i ≤ 122) ∨ (rdF f i).2.1.length = 8
        · rw [if_pos q2]; exact ⟨h1, h2, h3, h4, fun k hk => by cases hk; exact Nat.lt_succ_self _⟩
        · rw [if_neg q2]
          refine ⟨h1, by rw [List.length_append]; show _ + 1 ≤ 8; omega, h3, fun x hx => ?_, (fun k hk => by cases hk)⟩
          rcases List.mem_append.mp hx with hx | hx
          · exact h4 x hx
          · cases List.mem_singleton.mp hx; omega
theorem rdR_tx {f : Nat → Int} {n : Nat} {t : Tx} (h : rdR f n = .inl t) : txOK t := by
  have hs := rdF_sz (f := f) n
  unfold rdR at h
  cases hq : (rdF f n).2.2 with
  | some i => rw [hq] at h; cases h
  | none =>
    rw [hq] at h
    have h : (if n = 0 then .inl [] else if (rdF f n).2.1 = [] then .inr n else .inl ((rdF f n).1 ++ [(rdF f n).2.1]) : Tx ⊕ Nat) = .inl t := h
    by_cases h0 : n = 0
    · rw [if_pos h0] at h; cases h; exact ⟨by decide, fun c hc => by cases hc⟩
    · rw [if_neg h0] at h
      by_cases h1 : (rdF f n).2.1 = []
      · rw [if_pos h1] at h; cases h
      · rw [if_neg h1] at h; cases h
        refine ⟨by rw [List.length_append]; show _ + 1 ≤ 24; omega, fun c hc => ?_⟩
        rcases List.mem_append.mp hc with hc | hc
        · exact hs.2.2.1 c hc
        · cases List.mem_singleton.mp hc; exact ⟨hs.2.1, hs.2.2.2.1⟩
theorem rdR_le {f : Nat → Int} {n k : Nat} (h : rdR f n = .inr k) : k ≤ n := by
  have hs := rdF_sz (f := f) n
  unfold rdR at h
  cases hq : (rdF f n).2.2 with
  | some i => rw [hq] at h; cases h; have := hs.2.2.2.2 _ hq; omega
  | none =>
    rw [hq] at h
    have h : (if n = 0 then .inl [] else if (rdF f n).2.1 = [] then .inr n else .inl ((rdF f n).1 ++ [(rdF f n).2.1]) : Tx ⊕ Nat) = .inr k := h
    by_cases h0 : n = 0
    · rw [if_pos h0] at h; cases h
    · rw [if_neg h0] at h
      by_cases h1 : (rdF f n).2.1 = []
      · rw [if_pos h1] at h; cases h; exact Nat.le_refl _
      · rw [if_neg h1] at h; cases h
theorem rdR_end {f : Nat → Int} {n : Nat} {dn : Tx} {nw : Ln} (h : rdF f n = (dn, nw, none)) : rdR f n = if n = 0 then .inl [] else if nw = [] then .inr n else .inl (dn ++ [nw]) := by unfold rdR; rw [h]
theorem rows_app {T : mS} {r : Nat} {dn : Tx} {nw : Ln} (h : ∀ j, j < dn.length → T.2.2 3 (24 * r + j) = lnZ (dn.getD j [])) : ∀ j, j < (dn ++ [nw]).length → (sL T 3 (24 * r + dn.length) (lnZ nw)).2.2 3 (24 * r + j) = lnZ ((dn ++ [nw]).getD j []) := by
  intro j hj
  rw [List.length_append] at hj
  have hj : j < dn.length + 1 := hj
  rw [gD_app]
  by_cases hjd : j = dn.length
  · subst hjd; rw [sL_s, if_neg (Nat.lt_irrefl _), Nat.sub_self]; rfl
  · rw [sL_n (by omega), if_pos (by omega)]; exact h j (by omega)
theorem mK14.kd {S T : mS} (k : mK14 S T) : mKd S T := fun j hj => ⟨fun a _ => (k j hj).1 a, fun a _ d => (k j hj).2.1 a d, fun _ => (k j hj).2.2⟩
set_option maxHeartbeats 4000000 in
theorem metX4_reads {l : Launch} {X : gX} {mo : Nat} {ad : Nat → Nat} {S : mS} {w : aW} {v n : Nat} {f : Nat → Int64} (hO : mO S w) (hK : wOK w) (hv : v < 8 ∧ n ≤ 160) (hln9 : S.2.1 10 v = (n : Nat)) (hel9 : ∀ i, i < n → S.2.2 11 (160 * v + i) = f i) : Met l yX4_reads (ws_ yX4_reads cX4_reads 10 (some FieldType.int)) ({ frames := 1, cells := 0, slots := 0, locals := 22 }) (mP X mo ad S [.ref mo, .int (zI (v : Int))]) (mQi X mo ad (fun u T => u = zI (rdZ (rdR (rwI f) n)) ∧ mRd S T (wN w) ∧ ∀ t, rdR (rwI f) n = .inl t → T.2.1 2 (wN w) = (t.length : Nat) ∧ ∀ i, i < t.length → T.2.2 3 (24 * wN w + i) = lnZ (t.getD i []))) 0 0 (mA mo ad) := by
  refine Met.m (by decide) (Nat.le_of_ble_eq_true rfl) ?_
  intro p e s m below meth c ls hx hb hr hts hown hlocks hml hG hl
  have hl : lv_has ls 10 [(0, .ref mo), (1, .int (zI (v : Int)))] := hl
  have hNN := hK.n
  have hMM := hK.m
  refine lv_aload_n hx hb dX4_reads_0 rfl (lv_at hl 0 rfl) ?_
  refine m_get 10 (by decide) (v := .ref (ad 10)) rfl hx hb hts hown hG (hts _ q3306) dX4_reads_1 ?_
  refine lv_iload_n hx hb dX4_reads_4 rfl (lv_at hl 1 rfl) ?_
  refine m_iald 10 rfl rfl (by decide) v (v := (n : Int)) ⟨by omega, by show _ < 8; omega⟩ (show S.2.1 10 v = (n : Int) from hln9) hx hb hG dX4_reads_5 ?_
  refine lv_istore_n (lv' := [(2, .int (zI (n : Int))), (0, .ref mo), (1, .int (zI (v : Int)))]) hx hb dX4_reads_6 rfl hl (by decide) rfl (fun ls hl => ?_)
  refine lv_iconst (v := zI 0) hx hb dX4_reads_7 (by decide +kernel) ?_
  refine lv_istore_n (lv' := [(3, .int (zI 0)), (2, .int (zI (n : Int))), (0, .ref mo), (1, .int (zI (v : Int)))]) hx hb dX4_reads_8 rfl hl (by decide) rfl (fun ls hl => ?_)
  refine lv_iconst (v := zI 0) hx hb dX4_reads_9 (by decide +kernel) ?_
  refine lv_istore (lv' := [(4, .int (zI 0)), (3, .int (zI 0)), (2, .int (zI (n : Int))), (0, .ref mo), (1, .int (zI (v : Int)))]) hx hb dX4_reads_10 hl (by decide) rfl (fun ls hl => ?_)
  refine lv_lconst (v := zL 0) hx hb dX4_reads_12 (by decide +kernel) ?_
  refine lv_lstore (lv' := [(5, .long (zL 0)), (4, .int (zI 0)), (3, .int (zI 0)), (2, .int (zI (n : Int))), (0, .ref mo), (1, .int (zI (v : Int)))]) hx hb dX4_reads_13 hl (by decide) rfl (fun ls hl => ?_)
  refine lv_iconst (v := zI 0) hx hb dX4_reads_15 (by decide +kernel) ?_
  refine lv_istore (lv' := [(7, .int (zI 0)), (5, .long (zL 0)), (4, .int (zI 0)), (3, .int (zI 0)), (2, .int (zI (n : Int))), (0, .ref mo), (1, .int (zI (v : Int)))]) hx hb dX4_reads_16 hl (by decide) rfl (fun ls hl => ?_)
  have hl : lv_has ls 10 [(7, .int (zI ((0 : Nat) : Int))), (5, .long (lnZ [])), (4, .int (zI (([] : Ln).length : Int))), (3, .int (zI (([] : Tx).length : Int))), (2, .int (zI (n : Int))), (0, .ref mo), (1, .int (zI (v : Int)))] := by exact hl
  refine g_loop (fun mz H locs ls => ∃ (i : Nat) (dn : Tx) (nw : Ln) (T : mS), (i ≤ n ∧ mz = n - i ∧ rdF (rwI f) i = (dn, nw, none) ∧ mRd S T (wN w) ∧ ∀ j, j < dn.length → T.2.2 3 (24 * wN w + j) = lnZ (dn.getD j [])) ∧ mW X mo ad T s H locs ∧ lv_has ls 10 [(0, .ref mo), (1, .int (zI (v : Int))), (2, .int (zI (n : Int))), (3, .int (zI (dn.length : Int))), (4, .int (zI (nw.length : Int))), (5, .long (lnZ nw)), (7, .int (zI (i : Int)))]) (n - 0) ⟨0, ([]), ([]), S, ⟨Nat.zero_le _, rfl, rfl, mRd.rf, fun j hj => by cases hj⟩, hG, (lv_sub hl [5, 6, 4, 3, 2, 1, 0] rfl)⟩ (fun mz ihA H locs ls hI => ?_)
  obtain ⟨i, dn, nw, T, ⟨hi, hmz, hrd, hfr, hrow⟩, hG, hl⟩ := hI
  have hsz := rdF_sz (f := rwI f) i
  rw [hrd] at hsz
  obtain ⟨z1, z2, z3, z4, -⟩ := hsz
  have z1 : dn.length ≤ 23 := z1
  have z2 : nw.length ≤ 8 := z2
  refine lv_iload hx hb dX4_reads_18 (lv_at hl 6 rfl) ?_
  refine lv_iload_n hx hb dX4_reads_20 rfl (lv_at hl 2 rfl) ?_
  refine g_cge (tgt := 141) hx hb dX4_reads_21 (by decide) (by omega) (fun h1 => ?_) (fun h1 => ?_)
  · have hin : i = n := by omega
    rw [hin] at hrd
    have hre := rdR_end hrd
    refine lv_iload_n hx hb dX4_reads_141 rfl (lv_at hl 2 rfl) ?_
    refine g_le (tgt := 152) hx hb dX4_reads_142 (by decide) (by omega) (fun h4 => ?_) (fun h4 => ?_)
    · rw [if_pos (by omega)] at hre
      refine lv_iload_n hx hb dX4_reads_152 rfl (lv_at hl 2 rfl) ?_
      refine g_le (tgt := 172) hx hb dX4_reads_153 (by decide) (by omega) (fun h5 => ?_) (fun h5 => ?_)
      · refine lv_aload_n hx hb dX4_reads_172 rfl (lv_at hl 0 rfl) ?_
        refine m_get 2 (by decide) (v := .ref (ad 2)) rfl hx hb hts hown hG (hts _ q3298) dX4_reads_173 ?_
        refine lv_aload_n hx hb dX4_reads_176 rfl (lv_at hl 0 rfl) ?_
        refine m_get 0 (by decide) (v := .int (zI (wN w : Int))) (congrArg (fun z => Value.int (zI z)) (show T.1 0 = (wN w : Int) from ((congrFun hfr.1 0).trans hO.n))) hx hb hts hown hG (hts _ q3296) dX4_reads_177 ?_
        refine lv_iload_n hx hb dX4_reads_180 rfl (lv_at hl 2 rfl) ?_
        refine g_le (tgt := 190) hx hb dX4_reads_181 (by decide) (by omega) (fun h6 => ?_) (fun h6 => ?_)
        · refine lv_iconst (v := zI 0) hx hb dX4_reads_190 (by decide +kernel) ?_
          refine m_iast 2 rfl rfl (by decide) (wN w) ⟨by omega, by show _ < 17; omega⟩ hx hb hG dX4_reads_191 (fun H locs (hG : mW X mo ad (sA T 2 (wN w) 0) s H locs) => ?_)
          refine lv_iconst (v := zI (-1)) hx hb dX4_reads_192 (by decide +kernel) ?_
          exact m_iret hx hb hr hlocks hG (⟨by rw [hre]; rfl, hfr.A, fun t ht => by rw [hre] at ht; cases ht; exact ⟨sA_s, fun j hj => by cases hj⟩⟩) ⟨Nat.le_of_ble_eq_true rfl, Nat.le_of_ble_eq_true rfl⟩ dX4_reads_193
        · exfalso; omega
      · exfalso; omega
    · rw [if_neg (by omega)] at hre
      refine lv_iload hx hb dX4_reads_145 (lv_at hl 4 rfl) ?_
      refine g_ne (tgt := 152) hx hb dX4_reads_147 (by decide) (by omega) (fun h5 => ?_) (fun h5 => ?_)
      · rw [if_neg (fun q => by rw [q] at h5; exact h5 rfl)] at hre
        refine lv_iload_n hx hb dX4_reads_152 rfl (lv_at hl 2 rfl) ?_
        refine g_le (tgt := 172) hx hb dX4_reads_153 (by decide) (by omega) (fun h6 => ?_) (fun h6 => ?_)
        · exfalso; omega
        · refine lv_aload_n hx hb dX4_reads_156 rfl (lv_at hl 0 rfl) ?_
          refine m_get 3 (by decide) (v := .ref (ad 3)) rfl hx hb hts hown hG (hts _ q3299) dX4_reads_157 ?_
          refine lv_bipush (v := zI 24) hx hb dX4_reads_160 (by decide +kernel) ?_
          refine lv_aload_n hx hb dX4_reads_162 rfl (lv_at hl 0 rfl) ?_
          refine m_get 0 (by decide) (v := .int (zI (wN w : Int))) (congrArg (fun z => Value.int (zI z)) (show T.1 0 = (wN w : Int) from ((congrFun hfr.1 0).trans hO.n))) hx hb hts hown hG (hts _ q3296) dX4_reads_163 ?_
          refine g_imul hx hb dX4_reads_166 ?_
          refine lv_iload_n hx hb dX4_reads_167 rfl (lv_at hl 3 rfl) ?_
          refine g_iadd hx hb dX4_reads_168 ?_
          refine lv_lload hx hb dX4_reads_169 (lv_at hl 5 rfl) ?_
          refine m_last 3 rfl rfl (24 * wN w + dn.length) ⟨by omega, by show _ < 408; omega⟩ hx hb hG dX4_reads_171 (fun H locs (hG : mW X mo ad (sL T 3 (24 * wN w + dn.length) (lnZ nw)) s H locs) => ?_)
          refine lv_aload_n hx hb dX4_reads_172 rfl (lv_at hl 0 rfl) ?_
          refine m_get 2 (by decide) (v := .ref (ad 2)) rfl hx hb hts hown hG (hts _ q3298) dX4_reads_173 ?_
          refine lv_aload_n hx hb dX4_reads_176 rfl (lv_at hl 0 rfl) ?_
          refine m_get 0 (by decide) (v := .int (zI (wN w : Int))) (congrArg (fun z => Value.int (zI z)) (show (sL T 3 (24 * wN w + dn.length) (lnZ nw)).1 0 = (wN w : Int) from ((congrFun hfr.1 0).trans hO.n))) hx hb hts hown hG (hts _ q3296) dX4_reads_177 ?_
          refine lv_iload_n hx hb dX4_reads_180 rfl (lv_at hl 2 rfl) ?_
          refine g_le (tgt := 190) hx hb dX4_reads_181 (by decide) (by omega) (fun h7 => ?_) (fun h7 => ?_)
          · exfalso; omega
          · refine lv_iload_n hx hb dX4_reads_184 rfl (lv_at hl 3 rfl) ?_
            refine lv_iconst (v := zI 1) hx hb dX4_reads_185 (by decide +kernel) ?_
            refine g_iadd hx hb dX4_reads_186 ?_
            refine lv_goto (tgt := 191) hx hb dX4_reads_187 (by decide) ?_
            refine m_iast 2 rfl rfl (by decide) (wN w) ⟨by omega, by show _ < 17; omega⟩ hx hb hG dX4_reads_191 (fun H locs (hG : mW X mo ad (sA (sL T 3 (24 * wN w + dn.length) (lnZ nw)) 2 (wN w) ((dn.length : Int) + 1)) s H locs) => ?_)
            refine lv_iconst (v := zI (-1)) hx hb dX4_reads_192 (by decide +kernel) ?_
            exact m_iret hx hb hr hlocks hG (⟨by rw [hre]; rfl, (hfr.L (by omega)).A, fun t ht => by rw [hre] at ht; cases ht; exact ⟨sA_s.trans (by rw [List.length_append]; rfl), rows_app hrow⟩⟩) ⟨Nat.le_of_ble_eq_true rfl, Nat.le_of_ble_eq_true rfl⟩ dX4_reads_193
      · refine lv_iload_n hx hb dX4_reads_150 rfl (lv_at hl 2 rfl) ?_
        exact m_iret hx hb hr hlocks hG (⟨by rw [hre, if_pos (List.length_eq_zero_iff.mp (by omega))]; rfl, hfr, fun t ht => by rw [hre, if_pos (List.length_eq_zero_iff.mp (by omega))] at ht; cases ht⟩) ⟨Nat.le_of_ble_eq_true rfl, Nat.le_of_ble_eq_true rfl⟩ dX4_reads_151
  · refine lv_aload_n hx hb dX4_reads_24 rfl (lv_at hl 0 rfl) ?_
    refine lv_iload_n hx hb dX4_reads_25 rfl (lv_at hl 1 rfl) ?_
    refine lv_iload hx hb dX4_reads_26 (lv_at hl 6 rfl) ?_
    refine m_ci (va_runV (As := [.int (zI (v : Int)), .int (zI (i : Int))]) (rest := []) ⟨hx, hb, hml, hown, hts⟩ (metX4_read (v := v) (i := i) ⟨by omega, by omega⟩) (cwV 2 hts (lw_V q3489 q3491 qs50 q102 q3492) rfl rfl rfl (by decide +kernel) ⟨Nat.le_of_ble_eq_true rfl, Nat.le_of_ble_eq_true rfl⟩) (m_preV hG) rfl rfl hl.1 rfl (lv_room (Nat.le_of_ble_eq_true rfl)) dX4_reads_28 ⟨Nat.le_of_ble_eq_true rfl, Nat.le_of_ble_eq_true rfl⟩) hG (fun r_1 S_2 H locs hp hG => ?_)
    obtain ⟨rfl, rfl⟩ := hp
    have hG : mW X mo ad T s H locs := hG
    refine lv_topx (zI (rwI f i)) ((congrArg Int64.toInt32 ((congrFun (hfr.2.2.2.2 11 (by decide)) _).trans (hel9 i (by omega)))).trans (zI_of _)) ?_
    have hrw := rwI_R f i
    refine lv_istore (lv' := [(8, .int (zI (rwI f i))), (0, .ref mo), (1, .int (zI (v : Int))), (2, .int (zI (n : Int))), (3, .int (zI (dn.length : Int))), (4, .int (zI (nw.length : Int))), (5, .long (lnZ nw)), (7, .int (zI (i : Int)))]) hx hb dX4_reads_31 hl (by decide) rfl (fun ls hl => ?_)
    refine lv_iload hx hb dX4_reads_33 (lv_at hl 0 rfl) ?_
    refine lv_bipush (v := zI 47) hx hb dX4_reads_35 (by decide +kernel) ?_
    refine g_cne (tgt := 55) hx hb dX4_reads_37 (by decide) (by omega) (fun h2 => ?_) (fun h2 => ?_)
    · refine lv_iconst (v := zI 0) hx hb dX4_reads_55 (by decide +kernel) ?_
      refine lv_istore (lv' := [(9, .int (zI 0)), (8, .int (zI (rwI f i))), (0, .ref mo), (1, .int (zI (v : Int))), (2, .int (zI (n : Int))), (3, .int (zI (dn.length : Int))), (4, .int (zI (nw.length : Int))), (5, .long (lnZ nw)), (7, .int (zI (i : Int)))]) hx hb dX4_reads_56 hl (by decide) rfl (fun ls hl => ?_)
      refine lv_iload hx hb dX4_reads_58 (lv_at hl 0 rfl) ?_
      refine g_ne (tgt := 85) hx hb dX4_reads_60 (by decide) (by decide) (fun hq => ?_) (fun hq => ?_)
      · exfalso; omega
      · refine lv_iload hx hb dX4_reads_63 (lv_at hl 1 rfl) ?_
        refine lv_bipush (v := zI 97) hx hb dX4_reads_65 (by decide +kernel) ?_
        refine lv_bipush (v := zI 122) hx hb dX4_reads_67 (by decide +kernel) ?_
        refine m_ci (va_runS (As := [.int (zI (rwI f i)), .int (zI 97), .int (zI 122)]) (rest := []) ⟨hx, hb, hml, hown, hts⟩ (metX4_within (by omega)) (va_cwS 3 hts (lw_S q3424 q3425 q102 q3426) rfl rfl rfl (by decide +kernel) ⟨Nat.le_of_ble_eq_true rfl, Nat.le_of_ble_eq_true rfl⟩) (m_preS hG) rfl rfl hl.1 rfl (lv_room (Nat.le_of_ble_eq_true rfl)) dX4_reads_69 ⟨Nat.le_of_ble_eq_true rfl, Nat.le_of_ble_eq_true rfl⟩) hG (fun r_3 S_4 H locs hp hG => ?_)
        obtain ⟨b9, rfl, hb9, rfl⟩ := hp
        have hG : mW X mo ad T s H locs := hG
        refine g_eq (tgt := 82) hx hb dX4_reads_72 (by decide) (by omega) (fun h5 => ?_) (fun h5 => ?_)
        · refine lv_iload hx hb dX4_reads_82 (lv_at hl 8 rfl) ?_
          exact m_iret hx hb hr hlocks hG (by have q := rdF_at hrd (Or.inl h2) (Or.inl (by omega)) (n := n) (by omega); exact ⟨by rw [q]; rfl, hfr, fun t ht => by rw [q] at ht; cases ht⟩) ⟨Nat.le_of_ble_eq_true rfl, Nat.le_of_ble_eq_true rfl⟩ dX4_reads_84
        · refine lv_iload hx hb dX4_reads_75 (lv_at hl 6 rfl) ?_
          refine lv_bipush (v := zI 8) hx hb dX4_reads_77 (by decide +kernel) ?_
          refine g_cne (tgt := 85) hx hb dX4_reads_79 (by decide) (by omega) (fun h6 => ?_) (fun h6 => ?_)
          · refine lv_iload hx hb dX4_reads_85 (lv_at hl 0 rfl) ?_
            refine g_eq (tgt := 118) hx hb dX4_reads_87 (by decide) (by decide) (fun hq => ?_) (fun hq => ?_)
            · refine lv_lload hx hb dX4_reads_118 (lv_at hl 7 rfl) ?_
              refine lv_iload hx hb dX4_reads_120 (lv_at hl 1 rfl) ?_
              refine g_i2l hx hb dX4_reads_122 (by omega) ?_
              refine lv_bipush (v := zI 8) hx hb dX4_reads_123 (by decide +kernel) ?_
              refine lv_iload hx hb dX4_reads_125 (lv_at hl 6 rfl) ?_
              refine g_imul hx hb dX4_reads_127 ?_
              refine lv_lshl (v := ((zL (rwI f i)) <<< ((zI (8 * (nw.length : Int))).toInt64 &&& 63))) hx hb dX4_reads_128 rfl ?_
              refine lv_lor hx hb dX4_reads_129 ?_
              have hl97 : 97 ≤ rwI f i ∧ rwI f i ≤ 122 := by omega
              refine lv_lstore (lv' := [(5, .long ((lnZ nw) ||| ((zL (rwI f i)) <<< ((zI (8 * (nw.length : Int))).toInt64 &&& 63)))), (9, .int (zI 0)), (8, .int (zI (rwI f i))), (0, .ref mo), (1, .int (zI (v : Int))), (2, .int (zI (n : Int))), (3, .int (zI (dn.length : Int))), (4, .int (zI (nw.length : Int))), (7, .int (zI (i : Int)))]) hx hb dX4_reads_130 hl (by decide) rfl (fun ls hl => ?_)
              have hl : lv_has ls 10 [(5, .long (lnZ (nw ++ [(rwI f i).toNat]))), (9, .int (zI 0)), (8, .int (zI (rwI f i))), (0, .ref mo), (1, .int (zI (v : Int))), (2, .int (zI (n : Int))), (3, .int (zI (dn.length : Int))), (4, .int (zI (nw.length : Int))), (7, .int (zI (i : Int)))] := by rw [lnZ_or (t := nw) (fun x hx => (z4 x hx).2) (by omega) hl97] at hl; exact hl
              refine lv_iinc (v := zI ((nw.length : Int) + 1 : Int)) (lv' := [(4, .int (zI ((nw.length : Int) + 1 : Int))), (5, .long (lnZ (nw ++ [(rwI f i).toNat]))), (9, .int (zI 0)), (8, .int (zI (rwI f i))), (0, .ref mo), (1, .int (zI (v : Int))), (2, .int (zI (n : Int))), (3, .int (zI (dn.length : Int))), (7, .int (zI (i : Int)))]) hx hb dX4_reads_132 hl (k := 7) rfl ((zI_add _ _).trans (congrArg zI (by omega))) (by decide) rfl (fun ls hl => ?_)
              have hl : lv_has ls 10 [(4, .int (zI ((nw ++ [(rwI f i).toNat]).length : Int))), (5, .long (lnZ (nw ++ [(rwI f i).toNat]))), (9, .int (zI 0)), (8, .int (zI (rwI f i))), (0, .ref mo), (1, .int (zI (v : Int))), (2, .int (zI (n : Int))), (3, .int (zI (dn.length : Int))), (7, .int (zI (i : Int)))] := by rw [show ((nw ++ [(rwI f i).toNat]).length : Int) = (nw.length : Int) + 1 from by rw [List.length_append]; rfl]; exact hl
              refine lv_iinc (v := zI ((i : Int) + 1 : Int)) (lv' := [(7, .int (zI ((i : Int) + 1 : Int))), (4, .int (zI ((nw ++ [(rwI f i).toNat]).length : Int))), (5, .long (lnZ (nw ++ [(rwI f i).toNat]))), (9, .int (zI 0)), (8, .int (zI (rwI f i))), (0, .ref mo), (1, .int (zI (v : Int))), (2, .int (zI (n : Int))), (3, .int (zI (dn.length : Int)))]) hx hb dX4_reads_135 hl (k := 8) rfl ((zI_add _ _).trans (congrArg zI (by omega))) (by decide) rfl (fun ls hl => ?_)
              refine lv_goto (tgt := 18) hx hb dX4_reads_138 (by decide) ?_
              have hl : lv_has ls 10 [(7, .int (zI ((i + 1 : Nat) : Int))), (4, .int (zI ((nw ++ [(rwI f i).toNat]).length : Int))), (5, .long (lnZ (nw ++ [(rwI f i).toNat]))), (9, .int (zI 0)), (8, .int (zI (rwI f i))), (0, .ref mo), (1, .int (zI (v : Int))), (2, .int (zI (n : Int))), (3, .int (zI (dn.length : Int)))] := by exact hl
              exact ihA (n - (i + 1)) (by omega) H locs ls ⟨(i + 1), dn, (nw ++ [(rwI f i).toNat]), T, ⟨by omega, rfl, rdF_goes hrd hl97 (by omega), hfr, hrow⟩, hG, (lv_sub hl [5, 6, 7, 8, 1, 2, 0] rfl)⟩
            · exfalso; omega
          · refine lv_iload hx hb dX4_reads_82 (lv_at hl 8 rfl) ?_
            exact m_iret hx hb hr hlocks hG (by have q := rdF_at hrd (Or.inl h2) (Or.inr (by omega)) (n := n) (by omega); exact ⟨by rw [q]; rfl, hfr, fun t ht => by rw [q] at ht; cases ht⟩) ⟨Nat.le_of_ble_eq_true rfl, Nat.le_of_ble_eq_true rfl⟩ dX4_reads_84
    · refine lv_iload hx hb dX4_reads_40 (lv_at hl 5 rfl) ?_
      refine g_le (tgt := 55) hx hb dX4_reads_42 (by decide) (by omega) (fun h3 => ?_) (fun h3 => ?_)
      · refine lv_iconst (v := zI 0) hx hb dX4_reads_55 (by decide +kernel) ?_
        refine lv_istore (lv' := [(9, .int (zI 0)), (8, .int (zI (rwI f i))), (0, .ref mo), (1, .int (zI (v : Int))), (2, .int (zI (n : Int))), (3, .int (zI (dn.length : Int))), (4, .int (zI (nw.length : Int))), (5, .long (lnZ nw)), (7, .int (zI (i : Int)))]) hx hb dX4_reads_56 hl (by decide) rfl (fun ls hl => ?_)
        refine lv_iload hx hb dX4_reads_58 (lv_at hl 0 rfl) ?_
        refine g_ne (tgt := 85) hx hb dX4_reads_60 (by decide) (by decide) (fun hq => ?_) (fun hq => ?_)
        · exfalso; omega
        · refine lv_iload hx hb dX4_reads_63 (lv_at hl 1 rfl) ?_
          refine lv_bipush (v := zI 97) hx hb dX4_reads_65 (by decide +kernel) ?_
          refine lv_bipush (v := zI 122) hx hb dX4_reads_67 (by decide +kernel) ?_
          refine m_ci (va_runS (As := [.int (zI (rwI f i)), .int (zI 97), .int (zI 122)]) (rest := []) ⟨hx, hb, hml, hown, hts⟩ (metX4_within (by omega)) (va_cwS 3 hts (lw_S q3424 q3425 q102 q3426) rfl rfl rfl (by decide +kernel) ⟨Nat.le_of_ble_eq_true rfl, Nat.le_of_ble_eq_true rfl⟩) (m_preS hG) rfl rfl hl.1 rfl (lv_room (Nat.le_of_ble_eq_true rfl)) dX4_reads_69 ⟨Nat.le_of_ble_eq_true rfl, Nat.le_of_ble_eq_true rfl⟩) hG (fun r_5 S_6 H locs hp hG => ?_)
          obtain ⟨b9, rfl, hb9, rfl⟩ := hp
          have hG : mW X mo ad T s H locs := hG
          refine g_eq (tgt := 82) hx hb dX4_reads_72 (by decide) (by omega) (fun h5 => ?_) (fun h5 => ?_)
          · refine lv_iload hx hb dX4_reads_82 (lv_at hl 8 rfl) ?_
            exact m_iret hx hb hr hlocks hG (by have q := rdF_at hrd (Or.inr (Or.inl (List.length_eq_zero_iff.mp (by omega)))) (Or.inl (by omega)) (n := n) (by omega); exact ⟨by rw [q]; rfl, hfr, fun t ht => by rw [q] at ht; cases ht⟩) ⟨Nat.le_of_ble_eq_true rfl, Nat.le_of_ble_eq_true rfl⟩ dX4_reads_84
          · refine lv_iload hx hb dX4_reads_75 (lv_at hl 6 rfl) ?_
            refine lv_bipush (v := zI 8) hx hb dX4_reads_77 (by decide +kernel) ?_
            refine g_cne (tgt := 85) hx hb dX4_reads_79 (by decide) (by omega) (fun h6 => ?_) (fun h6 => ?_)
            · refine lv_iload hx hb dX4_reads_85 (lv_at hl 0 rfl) ?_
              refine g_eq (tgt := 118) hx hb dX4_reads_87 (by decide) (by decide) (fun hq => ?_) (fun hq => ?_)
              · refine lv_lload hx hb dX4_reads_118 (lv_at hl 7 rfl) ?_
                refine lv_iload hx hb dX4_reads_120 (lv_at hl 1 rfl) ?_
                refine g_i2l hx hb dX4_reads_122 (by omega) ?_
                refine lv_bipush (v := zI 8) hx hb dX4_reads_123 (by decide +kernel) ?_
                refine lv_iload hx hb dX4_reads_125 (lv_at hl 6 rfl) ?_
                refine g_imul hx hb dX4_reads_127 ?_
                refine lv_lshl (v := ((zL (rwI f i)) <<< ((zI (8 * (nw.length : Int))).toInt64 &&& 63))) hx hb dX4_reads_128 rfl ?_
                refine lv_lor hx hb dX4_reads_129 ?_
                have hl97 : 97 ≤ rwI f i ∧ rwI f i ≤ 122 := by omega
                refine lv_lstore (lv' := [(5, .long ((lnZ nw) ||| ((zL (rwI f i)) <<< ((zI (8 * (nw.length : Int))).toInt64 &&& 63)))), (9, .int (zI 0)), (8, .int (zI (rwI f i))), (0, .ref mo), (1, .int (zI (v : Int))), (2, .int (zI (n : Int))), (3, .int (zI (dn.length : Int))), (4, .int (zI (nw.length : Int))), (7, .int (zI (i : Int)))]) hx hb dX4_reads_130 hl (by decide) rfl (fun ls hl => ?_)
                have hl : lv_has ls 10 [(5, .long (lnZ (nw ++ [(rwI f i).toNat]))), (9, .int (zI 0)), (8, .int (zI (rwI f i))), (0, .ref mo), (1, .int (zI (v : Int))), (2, .int (zI (n : Int))), (3, .int (zI (dn.length : Int))), (4, .int (zI (nw.length : Int))), (7, .int (zI (i : Int)))] := by rw [lnZ_or (t := nw) (fun x hx => (z4 x hx).2) (by omega) hl97] at hl; exact hl
                refine lv_iinc (v := zI ((nw.length : Int) + 1 : Int)) (lv' := [(4, .int (zI ((nw.length : Int) + 1 : Int))), (5, .long (lnZ (nw ++ [(rwI f i).toNat]))), (9, .int (zI 0)), (8, .int (zI (rwI f i))), (0, .ref mo), (1, .int (zI (v : Int))), (2, .int (zI (n : Int))), (3, .int (zI (dn.length : Int))), (7, .int (zI (i : Int)))]) hx hb dX4_reads_132 hl (k := 7) rfl ((zI_add _ _).trans (congrArg zI (by omega))) (by decide) rfl (fun ls hl => ?_)
                have hl : lv_has ls 10 [(4, .int (zI ((nw ++ [(rwI f i).toNat]).length : Int))), (5, .long (lnZ (nw ++ [(rwI f i).toNat]))), (9, .int (zI 0)), (8, .int (zI (rwI f i))), (0, .ref mo), (1, .int (zI (v : Int))), (2, .int (zI (n : Int))), (3, .int (zI (dn.length : Int))), (7, .int (zI (i : Int)))] := by rw [show ((nw ++ [(rwI f i).toNat]).length : Int) = (nw.length : Int) + 1 from by rw [List.length_append]; rfl]; exact hl
                refine lv_iinc (v := zI ((i : Int) + 1 : Int)) (lv' := [(7, .int (zI ((i : Int) + 1 : Int))), (4, .int (zI ((nw ++ [(rwI f i).toNat]).length : Int))), (5, .long (lnZ (nw ++ [(rwI f i).toNat]))), (9, .int (zI 0)), (8, .int (zI (rwI f i))), (0, .ref mo), (1, .int (zI (v : Int))), (2, .int (zI (n : Int))), (3, .int (zI (dn.length : Int)))]) hx hb dX4_reads_135 hl (k := 8) rfl ((zI_add _ _).trans (congrArg zI (by omega))) (by decide) rfl (fun ls hl => ?_)
                refine lv_goto (tgt := 18) hx hb dX4_reads_138 (by decide) ?_
                have hl : lv_has ls 10 [(7, .int (zI ((i + 1 : Nat) : Int))), (4, .int (zI ((nw ++ [(rwI f i).toNat]).length : Int))), (5, .long (lnZ (nw ++ [(rwI f i).toNat]))), (9, .int (zI 0)), (8, .int (zI (rwI f i))), (0, .ref mo), (1, .int (zI (v : Int))), (2, .int (zI (n : Int))), (3, .int (zI (dn.length : Int)))] := by exact hl
                exact ihA (n - (i + 1)) (by omega) H locs ls ⟨(i + 1), dn, (nw ++ [(rwI f i).toNat]), T, ⟨by omega, rfl, rdF_goes hrd hl97 (by omega), hfr, hrow⟩, hG, (lv_sub hl [5, 6, 7, 8, 1, 2, 0] rfl)⟩
              · exfalso; omega
            · refine lv_iload hx hb dX4_reads_82 (lv_at hl 8 rfl) ?_
              exact m_iret hx hb hr hlocks hG (by have q := rdF_at hrd (Or.inr (Or.inl (List.length_eq_zero_iff.mp (by omega)))) (Or.inr (by omega)) (n := n) (by omega); exact ⟨by rw [q]; rfl, hfr, fun t ht => by rw [q] at ht; cases ht⟩) ⟨Nat.le_of_ble_eq_true rfl, Nat.le_of_ble_eq_true rfl⟩ dX4_reads_84
      · refine lv_iload_n hx hb dX4_reads_45 rfl (lv_at hl 4 rfl) ?_
        refine lv_bipush (v := zI 23) hx hb dX4_reads_46 (by decide +kernel) ?_
        refine g_cge (tgt := 55) hx hb dX4_reads_48 (by decide) (by omega) (fun h4 => ?_) (fun h4 => ?_)
        · refine lv_iconst (v := zI 0) hx hb dX4_reads_55 (by decide +kernel) ?_
          refine lv_istore (lv' := [(9, .int (zI 0)), (8, .int (zI (rwI f i))), (0, .ref mo), (1, .int (zI (v : Int))), (2, .int (zI (n : Int))), (3, .int (zI (dn.length : Int))), (4, .int (zI (nw.length : Int))), (5, .long (lnZ nw)), (7, .int (zI (i : Int)))]) hx hb dX4_reads_56 hl (by decide) rfl (fun ls hl => ?_)
          refine lv_iload hx hb dX4_reads_58 (lv_at hl 0 rfl) ?_
          refine g_ne (tgt := 85) hx hb dX4_reads_60 (by decide) (by decide) (fun hq => ?_) (fun hq => ?_)
          · exfalso; omega
          · refine lv_iload hx hb dX4_reads_63 (lv_at hl 1 rfl) ?_
            refine lv_bipush (v := zI 97) hx hb dX4_reads_65 (by decide +kernel) ?_
            refine lv_bipush (v := zI 122) hx hb dX4_reads_67 (by decide +kernel) ?_
            refine m_ci (va_runS (As := [.int (zI (rwI f i)), .int (zI 97), .int (zI 122)]) (rest := []) ⟨hx, hb, hml, hown, hts⟩ (metX4_within (by omega)) (va_cwS 3 hts (lw_S q3424 q3425 q102 q3426) rfl rfl rfl (by decide +kernel) ⟨Nat.le_of_ble_eq_true rfl, Nat.le_of_ble_eq_true rfl⟩) (m_preS hG) rfl rfl hl.1 rfl (lv_room (Nat.le_of_ble_eq_true rfl)) dX4_reads_69 ⟨Nat.le_of_ble_eq_true rfl, Nat.le_of_ble_eq_true rfl⟩) hG (fun r_7 S_8 H locs hp hG => ?_)
            obtain ⟨b9, rfl, hb9, rfl⟩ := hp
            have hG : mW X mo ad T s H locs := hG
            refine g_eq (tgt := 82) hx hb dX4_reads_72 (by decide) (by omega) (fun h5 => ?_) (fun h5 => ?_)
            · refine lv_iload hx hb dX4_reads_82 (lv_at hl 8 rfl) ?_
              exact m_iret hx hb hr hlocks hG (by have q := rdF_at hrd (Or.inr (Or.inr (by omega))) (Or.inl (by omega)) (n := n) (by omega); exact ⟨by rw [q]; rfl, hfr, fun t ht => by rw [q] at ht; cases ht⟩) ⟨Nat.le_of_ble_eq_true rfl, Nat.le_of_ble_eq_true rfl⟩ dX4_reads_84
            · refine lv_iload hx hb dX4_reads_75 (lv_at hl 6 rfl) ?_
              refine lv_bipush (v := zI 8) hx hb dX4_reads_77 (by decide +kernel) ?_
              refine g_cne (tgt := 85) hx hb dX4_reads_79 (by decide) (by omega) (fun h6 => ?_) (fun h6 => ?_)
              · refine lv_iload hx hb dX4_reads_85 (lv_at hl 0 rfl) ?_
                refine g_eq (tgt := 118) hx hb dX4_reads_87 (by decide) (by decide) (fun hq => ?_) (fun hq => ?_)
                · refine lv_lload hx hb dX4_reads_118 (lv_at hl 7 rfl) ?_
                  refine lv_iload hx hb dX4_reads_120 (lv_at hl 1 rfl) ?_
                  refine g_i2l hx hb dX4_reads_122 (by omega) ?_
                  refine lv_bipush (v := zI 8) hx hb dX4_reads_123 (by decide +kernel) ?_
                  refine lv_iload hx hb dX4_reads_125 (lv_at hl 6 rfl) ?_
                  refine g_imul hx hb dX4_reads_127 ?_
                  refine lv_lshl (v := ((zL (rwI f i)) <<< ((zI (8 * (nw.length : Int))).toInt64 &&& 63))) hx hb dX4_reads_128 rfl ?_
                  refine lv_lor hx hb dX4_reads_129 ?_
                  have hl97 : 97 ≤ rwI f i ∧ rwI f i ≤ 122 := by omega
                  refine lv_lstore (lv' := [(5, .long ((lnZ nw) ||| ((zL (rwI f i)) <<< ((zI (8 * (nw.length : Int))).toInt64 &&& 63)))), (9, .int (zI 0)), (8, .int (zI (rwI f i))), (0, .ref mo), (1, .int (zI (v : Int))), (2, .int (zI (n : Int))), (3, .int (zI (dn.length : Int))), (4, .int (zI (nw.length : Int))), (7, .int (zI (i : Int)))]) hx hb dX4_reads_130 hl (by decide) rfl (fun ls hl => ?_)
                  have hl : lv_has ls 10 [(5, .long (lnZ (nw ++ [(rwI f i).toNat]))), (9, .int (zI 0)), (8, .int (zI (rwI f i))), (0, .ref mo), (1, .int (zI (v : Int))), (2, .int (zI (n : Int))), (3, .int (zI (dn.length : Int))), (4, .int (zI (nw.length : Int))), (7, .int (zI (i : Int)))] := by rw [lnZ_or (t := nw) (fun x hx => (z4 x hx).2) (by omega) hl97] at hl; exact hl
                  refine lv_iinc (v := zI ((nw.length : Int) + 1 : Int)) (lv' := [(4, .int (zI ((nw.length : Int) + 1 : Int))), (5, .long (lnZ (nw ++ [(rwI f i).toNat]))), (9, .int (zI 0)), (8, .int (zI (rwI f i))), (0, .ref mo), (1, .int (zI (v : Int))), (2, .int (zI (n : Int))), (3, .int (zI (dn.length : Int))), (7, .int (zI (i : Int)))]) hx hb dX4_reads_132 hl (k := 7) rfl ((zI_add _ _).trans (congrArg zI (by omega))) (by decide) rfl (fun ls hl => ?_)
                  have hl : lv_has ls 10 [(4, .int (zI ((nw ++ [(rwI f i).toNat]).length : Int))), (5, .long (lnZ (nw ++ [(rwI f i).toNat]))), (9, .int (zI 0)), (8, .int (zI (rwI f i))), (0, .ref mo), (1, .int (zI (v : Int))), (2, .int (zI (n : Int))), (3, .int (zI (dn.length : Int))), (7, .int (zI (i : Int)))] := by rw [show ((nw ++ [(rwI f i).toNat]).length : Int) = (nw.length : Int) + 1 from by rw [List.length_append]; rfl]; exact hl
                  refine lv_iinc (v := zI ((i : Int) + 1 : Int)) (lv' := [(7, .int (zI ((i : Int) + 1 : Int))), (4, .int (zI ((nw ++ [(rwI f i).toNat]).length : Int))), (5, .long (lnZ (nw ++ [(rwI f i).toNat]))), (9, .int (zI 0)), (8, .int (zI (rwI f i))), (0, .ref mo), (1, .int (zI (v : Int))), (2, .int (zI (n : Int))), (3, .int (zI (dn.length : Int)))]) hx hb dX4_reads_135 hl (k := 8) rfl ((zI_add _ _).trans (congrArg zI (by omega))) (by decide) rfl (fun ls hl => ?_)
                  refine lv_goto (tgt := 18) hx hb dX4_reads_138 (by decide) ?_
                  have hl : lv_has ls 10 [(7, .int (zI ((i + 1 : Nat) : Int))), (4, .int (zI ((nw ++ [(rwI f i).toNat]).length : Int))), (5, .long (lnZ (nw ++ [(rwI f i).toNat]))), (9, .int (zI 0)), (8, .int (zI (rwI f i))), (0, .ref mo), (1, .int (zI (v : Int))), (2, .int (zI (n : Int))), (3, .int (zI (dn.length : Int)))] := by exact hl
                  exact ihA (n - (i + 1)) (by omega) H locs ls ⟨(i + 1), dn, (nw ++ [(rwI f i).toNat]), T, ⟨by omega, rfl, rdF_goes hrd hl97 (by omega), hfr, hrow⟩, hG, (lv_sub hl [5, 6, 7, 8, 1, 2, 0] rfl)⟩
                · exfalso; omega
              · refine lv_iload hx hb dX4_reads_82 (lv_at hl 8 rfl) ?_
                exact m_iret hx hb hr hlocks hG (by have q := rdF_at hrd (Or.inr (Or.inr (by omega))) (Or.inr (by omega)) (n := n) (by omega); exact ⟨by rw [q]; rfl, hfr, fun t ht => by rw [q] at ht; cases ht⟩) ⟨Nat.le_of_ble_eq_true rfl, Nat.le_of_ble_eq_true rfl⟩ dX4_reads_84
        · refine lv_iconst (v := zI 1) hx hb dX4_reads_51 (by decide +kernel) ?_
          refine lv_goto (tgt := 56) hx hb dX4_reads_52 (by decide) ?_
          refine lv_istore (lv' := [(9, .int (zI 1)), (8, .int (zI (rwI f i))), (0, .ref mo), (1, .int (zI (v : Int))), (2, .int (zI (n : Int))), (3, .int (zI (dn.length : Int))), (4, .int (zI (nw.length : Int))), (5, .long (lnZ nw)), (7, .int (zI (i : Int)))]) hx hb dX4_reads_56 hl (by decide) rfl (fun ls hl => ?_)
          refine lv_iload hx hb dX4_reads_58 (lv_at hl 0 rfl) ?_
          refine g_ne (tgt := 85) hx hb dX4_reads_60 (by decide) (by decide) (fun hq => ?_) (fun hq => ?_)
          · refine lv_iload hx hb dX4_reads_85 (lv_at hl 0 rfl) ?_
            refine g_eq (tgt := 118) hx hb dX4_reads_87 (by decide) (by decide) (fun hq => ?_) (fun hq => ?_)
            · exfalso; omega
            · refine lv_aload_n hx hb dX4_reads_90 rfl (lv_at hl 2 rfl) ?_
              refine m_get 3 (by decide) (v := .ref (ad 3)) rfl hx hb hts hown hG (hts _ q3299) dX4_reads_91 ?_
              refine lv_bipush (v := zI 24) hx hb dX4_reads_94 (by decide +kernel) ?_
              refine lv_aload_n hx hb dX4_reads_96 rfl (lv_at hl 2 rfl) ?_
              refine m_get 0 (by decide) (v := .int (zI (wN w : Int))) (congrArg (fun z => Value.int (zI z)) (show T.1 0 = (wN w : Int) from ((congrFun hfr.1 0).trans hO.n))) hx hb hts hown hG (hts _ q3296) dX4_reads_97 ?_
              refine g_imul hx hb dX4_reads_100 ?_
              refine lv_iload_n hx hb dX4_reads_101 rfl (lv_at hl 5 rfl) ?_
              refine g_iadd hx hb dX4_reads_102 ?_
              refine lv_lload hx hb dX4_reads_103 (lv_at hl 7 rfl) ?_
              refine m_last 3 rfl rfl (24 * wN w + dn.length) ⟨by omega, by show _ < 408; omega⟩ hx hb hG dX4_reads_105 (fun H locs (hG : mW X mo ad (sL T 3 (24 * wN w + dn.length) (lnZ nw)) s H locs) => ?_)
              refine lv_iinc (v := zI ((dn.length : Int) + 1 : Int)) (lv' := [(3, .int (zI ((dn.length : Int) + 1 : Int))), (9, .int (zI 1)), (8, .int (zI (rwI f i))), (0, .ref mo), (1, .int (zI (v : Int))), (2, .int (zI (n : Int))), (4, .int (zI (nw.length : Int))), (5, .long (lnZ nw)), (7, .int (zI (i : Int)))]) hx hb dX4_reads_106 hl (k := 5) rfl ((zI_add _ _).trans (congrArg zI (by omega))) (by decide) rfl (fun ls hl => ?_)
              refine lv_iconst (v := zI 0) hx hb dX4_reads_109 (by decide +kernel) ?_
              refine lv_istore (lv' := [(4, .int (zI 0)), (3, .int (zI ((dn.length : Int) + 1 : Int))), (9, .int (zI 1)), (8, .int (zI (rwI f i))), (0, .ref mo), (1, .int (zI (v : Int))), (2, .int (zI (n : Int))), (5, .long (lnZ nw)), (7, .int (zI (i : Int)))]) hx hb dX4_reads_110 hl (by decide) rfl (fun ls hl => ?_)
              refine lv_lconst (v := zL 0) hx hb dX4_reads_112 (by decide +kernel) ?_
              refine lv_lstore (lv' := [(5, .long (zL 0)), (4, .int (zI 0)), (3, .int (zI ((dn.length : Int) + 1 : Int))), (9, .int (zI 1)), (8, .int (zI (rwI f i))), (0, .ref mo), (1, .int (zI (v : Int))), (2, .int (zI (n : Int))), (7, .int (zI (i : Int)))]) hx hb dX4_reads_113 hl (by decide) rfl (fun ls hl => ?_)
              refine lv_goto (tgt := 135) hx hb dX4_reads_115 (by decide) ?_
              have hl : lv_has ls 10 [(5, .long (lnZ [])), (4, .int (zI (([] : Ln).length : Int))), (3, .int (zI ((dn ++ [nw]).length : Int))), (9, .int (zI 1)), (8, .int (zI (rwI f i))), (0, .ref mo), (1, .int (zI (v : Int))), (2, .int (zI (n : Int))), (7, .int (zI (i : Int)))] := by rw [show ((dn ++ [nw]).length : Int) = (dn.length : Int) + 1 from by rw [List.length_append]; rfl]; exact hl
              refine lv_iinc (v := zI ((i : Int) + 1 : Int)) (lv' := [(7, .int (zI ((i : Int) + 1 : Int))), (5, .long (lnZ [])), (4, .int (zI (([] : Ln).length : Int))), (3, .int (zI ((dn ++ [nw]).length : Int))), (9, .int (zI 1)), (8, .int (zI (rwI f i))), (0, .ref mo), (1, .int (zI (v : Int))), (2, .int (zI (n : Int)))]) hx hb dX4_reads_135 hl (k := 8) rfl ((zI_add _ _).trans (congrArg zI (by omega))) (by decide) rfl (fun ls hl => ?_)
              refine lv_goto (tgt := 18) hx hb dX4_reads_138 (by decide) ?_
              have hl : lv_has ls 10 [(7, .int (zI ((i + 1 : Nat) : Int))), (5, .long (lnZ [])), (4, .int (zI (([] : Ln).length : Int))), (3, .int (zI ((dn ++ [nw]).length : Int))), (9, .int (zI 1)), (8, .int (zI (rwI f i))), (0, .ref mo), (1, .int (zI (v : Int))), (2, .int (zI (n : Int)))] := by exact hl
              exact ihA (n - (i + 1)) (by omega) H locs ls ⟨(i + 1), (dn ++ [nw]), ([]), (sL T 3 (24 * wN w + dn.length) (lnZ nw)), ⟨by omega, rfl, rdF_ends hrd (by omega) (by omega) (by omega), hfr.L (by omega), rows_app hrow⟩, hG, (lv_sub hl [6, 7, 8, 3, 2, 1, 0] rfl)⟩
          · exfalso; omega

set_option maxHeartbeats 4000000 in
theorem metX4_revise {l : Launch} {X : gX} {mo : Nat} {ad : Nat → Nat} {S : mS} {a : aS} (hX : mX S a) (hA : aOK a) {v fo : Int} (hr0 : -2147483648 ≤ v ∧ v < 2147483648 ∧ -2147483648 ≤ fo ∧ fo < 2147483648) : Met l yX4_revise (ws_ yX4_revise cX4_revise 4 (some FieldType.int)) ({ frames := 6, cells := 0, slots := 0, locals := 143 }) (mP X mo ad S [.ref mo, .int (zI v), .int (zI fo)]) (mQi X mo ad (fun u T => u = zI (opRevise a v fo).1 ∧ mX T (opRevise a v fo).2)) 0 0 (mA mo ad) := by
  refine Met.m (by decide) (Nat.le_of_ble_eq_true rfl) ?_
  intro p e s m below meth c ls hx hb hr hts hown hlocks hml hG hl
  have hl : lv_has ls 4 [(0, .ref mo), (1, .int (zI v)), (2, .int (zI fo))] := hl
  have hNN := hA.w.n
  have hMM := hA.w.m
  by_cases hinv : 0 ≤ v ∧ v ≤ 7
  · obtain ⟨v1, rfl⟩ : ∃ n9 : Nat, v = n9 := ⟨v.toNat, by omega⟩
    have hshv := hX.2.2.1 v1 (by omega)
    have hokv := hA.2.1 v1
    rcases hsvv : aSv a v1 with _ | mv | ⟨sov, nv, fv⟩
    · rw [hsvv] at hshv
      have hshv : S.2.1 9 v1 = -1 := hshv
      refine lv_aload_n hx hb dX4_revise_0 rfl (lv_at hl 0 rfl) ?_
      refine lv_iload_n hx hb dX4_revise_1 rfl (lv_at hl 1 rfl) ?_
      refine m_ci (va_runV (As := [.int (zI (v1 : Int))]) (rest := []) ⟨hx, hb, hml, hown, hts⟩ (metX4_noRow hX hA (by omega) 3 (by unfold aBar; rw [if_neg (by omega)]; simp only [Int.toNat_natCast, hsvv])) (cwV 1 hts (lw_V q3435 q3437 qs44 q102 q3438) rfl rfl rfl (by decide +kernel) ⟨Nat.le_of_ble_eq_true rfl, Nat.le_of_ble_eq_true rfl⟩) (m_preV hG) rfl rfl hl.1 rfl (lv_room (Nat.le_of_ble_eq_true rfl)) dX4_revise_2 ⟨Nat.le_of_ble_eq_true rfl, Nat.le_of_ble_eq_true rfl⟩) hG (fun r_1 S_2 H locs hp hG => ?_)
      obtain ⟨rfl, rfl⟩ := hp
      have hG : mW X mo ad S s H locs := hG
      refine g_topz (y := -3) (by decide) ?_
      refine lv_istore_n (lv' := [(3, .int (zI (-3))), (0, .ref mo), (1, .int (zI (v1 : Int))), (2, .int (zI fo))]) hx hb dX4_revise_5 rfl hl (by decide) rfl (fun ls hl => ?_)
      refine lv_iload_n hx hb dX4_revise_6 rfl (lv_at hl 0 rfl) ?_
      refine lv_iconst (v := zI (-1)) hx hb dX4_revise_7 (by decide +kernel) ?_
      refine g_ceq (tgt := 24) hx hb dX4_revise_8 (by decide) (by omega) (fun h1 => ?_) (fun h1 => ?_)
      · exfalso; omega
      · refine lv_iload_n hx hb dX4_revise_11 rfl (lv_at hl 3 rfl) ?_
        refine lv_iconst (v := zI (-1)) hx hb dX4_revise_12 (by decide +kernel) ?_
        refine g_ceq (tgt := 30) hx hb dX4_revise_13 (by decide) (by omega) (fun h2 => ?_) (fun h2 => ?_)
        · refine lv_iload_n hx hb dX4_revise_30 rfl (lv_at hl 0 rfl) ?_
          refine g_ge (tgt := 40) hx hb dX4_revise_31 (by decide) (by decide) (fun h3 => ?_) (fun h3 => ?_)
          · exfalso; omega
          · refine lv_aload_n hx hb dX4_revise_34 rfl (lv_at hl 1 rfl) ?_
            refine lv_iload_n hx hb dX4_revise_35 rfl (lv_at hl 0 rfl) ?_
            refine g_topz (y := -((3 : Nat) : Int)) (by decide) ?_
            refine m_ci (va_runV (As := [.int (zI (-((3 : Nat) : Int)))]) (rest := []) ⟨hx, hb, hml, hown, hts⟩ (metX4_no 3 (by decide)) (cwV 1 hts (lw_V q3427 q3429 qs43 q102 q3430) rfl rfl rfl (by decide +kernel) ⟨Nat.le_of_ble_eq_true rfl, Nat.le_of_ble_eq_true rfl⟩) (m_preV hG) rfl rfl hl.1 rfl (lv_room (Nat.le_of_ble_eq_true rfl)) dX4_revise_36 ⟨Nat.le_of_ble_eq_true rfl, Nat.le_of_ble_eq_true rfl⟩) hG (fun r_3 S_4 H locs hp hG => ?_)
            obtain ⟨rfl, rfl⟩ := hp
            have hG : mW X mo ad (mNo S 3) s H locs := hG
            exact m_iret hx hb hr hlocks hG (by first | (exfalso; omega) | exact (hX.noR 3 (by unfold opRevise; (repeat (first | rw [if_pos (by omega)] | rw [if_neg (by omega)])); all_goals (try (simp only [Int.toNat_natCast, hsvv])); all_goals ((repeat (first | rw [if_pos (by omega)] | rw [if_neg (by omega)])) <;> rfl)))) ⟨Nat.le_of_ble_eq_true rfl, Nat.le_of_ble_eq_true rfl⟩ dX4_revise_39
        · refine lv_aload_n hx hb dX4_revise_16 rfl (lv_at hl 1 rfl) ?_
          refine lv_iload_n hx hb dX4_revise_17 rfl (lv_at hl 3 rfl) ?_
          have hq4 := hX.o.n
          have hQ4 := hA.w.n
          refine m_ci (va_runV (As := [.int (zI fo)]) (rest := []) ⟨hx, hb, hml, hown, hts⟩ (metX4_isRevision (by omega) (by omega)) (cwV 1 hts (lw_V q3481 q3483 qs48 q102 q3484) rfl rfl rfl (by decide +kernel) ⟨Nat.le_of_ble_eq_true rfl, Nat.le_of_ble_eq_true rfl⟩) (m_preV hG) rfl rfl hl.1 rfl (lv_room (Nat.le_of_ble_eq_true rfl)) dX4_revise_18 ⟨Nat.le_of_ble_eq_true rfl, Nat.le_of_ble_eq_true rfl⟩) hG (fun r_5 S_6 H locs hp hG => ?_)
          obtain ⟨b4, rfl, hb4, rfl⟩ := hp
          have hG : mW X mo ad S s H locs := hG
          refine g_ne (tgt := 30) hx hb dX4_revise_21 (by decide) (by omega) (fun h5 => ?_) (fun h5 => ?_)
          · refine lv_iload_n hx hb dX4_revise_30 rfl (lv_at hl 0 rfl) ?_
            refine g_ge (tgt := 40) hx hb dX4_revise_31 (by decide) (by decide) (fun h6 => ?_) (fun h6 => ?_)
            · exfalso; omega
            · refine lv_aload_n hx hb dX4_revise_34 rfl (lv_at hl 1 rfl) ?_
              refine lv_iload_n hx hb dX4_revise_35 rfl (lv_at hl 0 rfl) ?_
              refine g_topz (y := -((3 : Nat) : Int)) (by decide) ?_
              refine m_ci (va_runV (As := [.int (zI (-((3 : Nat) : Int)))]) (rest := []) ⟨hx, hb, hml, hown, hts⟩ (metX4_no 3 (by decide)) (cwV 1 hts (lw_V q3427 q3429 qs43 q102 q3430) rfl rfl rfl (by decide +kernel) ⟨Nat.le_of_ble_eq_true rfl, Nat.le_of_ble_eq_true rfl⟩) (m_preV hG) rfl rfl hl.1 rfl (lv_room (Nat.le_of_ble_eq_true rfl)) dX4_revise_36 ⟨Nat.le_of_ble_eq_true rfl, Nat.le_of_ble_eq_true rfl⟩) hG (fun r_7 S_8 H locs hp hG => ?_)
              obtain ⟨rfl, rfl⟩ := hp
              have hG : mW X mo ad (mNo S 3) s H locs := hG
              exact m_iret hx hb hr hlocks hG (by first | (exfalso; omega) | exact (hX.noR 3 (by unfold opRevise; (repeat (first | rw [if_pos (by omega)] | rw [if_neg (by omega)])); all_goals (try (simp only [Int.toNat_natCast, hsvv])); all_goals ((repeat (first | rw [if_pos (by omega)] | rw [if_neg (by omega)])) <;> rfl)))) ⟨Nat.le_of_ble_eq_true rfl, Nat.le_of_ble_eq_true rfl⟩ dX4_revise_39
          · refine lv_aload_n hx hb dX4_revise_24 rfl (lv_at hl 1 rfl) ?_
            refine lv_iconst (v := zI (-1)) hx hb dX4_revise_25 (by decide +kernel) ?_
            refine g_topz (y := -((1 : Nat) : Int)) (by decide) ?_
            refine m_ci (va_runV (As := [.int (zI (-((1 : Nat) : Int)))]) (rest := []) ⟨hx, hb, hml, hown, hts⟩ (metX4_no 1 (by decide)) (cwV 1 hts (lw_V q3427 q3429 qs43 q102 q3430) rfl rfl rfl (by decide +kernel) ⟨Nat.le_of_ble_eq_true rfl, Nat.le_of_ble_eq_true rfl⟩) (m_preV hG) rfl rfl hl.1 rfl (lv_room (Nat.le_of_ble_eq_true rfl)) dX4_revise_26 ⟨Nat.le_of_ble_eq_true rfl, Nat.le_of_ble_eq_true rfl⟩) hG (fun r_9 S_10 H locs hp hG => ?_)
            obtain ⟨rfl, rfl⟩ := hp
            have hG : mW X mo ad (mNo S 1) s H locs := hG
            exact m_iret hx hb hr hlocks hG (by first | (exfalso; omega) | exact (hX.noR 1 (by unfold opRevise; (repeat (first | rw [if_pos (by omega)] | rw [if_neg (by omega)])); all_goals (try (simp only [Int.toNat_natCast, hsvv])); all_goals ((repeat (first | rw [if_pos (by omega)] | rw [if_neg (by omega)])) <;> rfl)))) ⟨Nat.le_of_ble_eq_true rfl, Nat.le_of_ble_eq_true rfl⟩ dX4_revise_29
    · rw [hsvv] at hshv hokv
      have hshv : S.2.1 9 v1 = (mv : Nat) := hshv
      have hokv : mv < wM (aWd a) := hokv
      have hMv := hA.w.m
      refine lv_aload_n hx hb dX4_revise_0 rfl (lv_at hl 0 rfl) ?_
      refine lv_iload_n hx hb dX4_revise_1 rfl (lv_at hl 1 rfl) ?_
      refine m_ci (va_runV (As := [.int (zI (v1 : Int))]) (rest := []) ⟨hx, hb, hml, hown, hts⟩ (metX4_noRow hX hA (by omega) 2 (by unfold aBar; rw [if_neg (by omega)]; simp only [Int.toNat_natCast, hsvv])) (cwV 1 hts (lw_V q3435 q3437 qs44 q102 q3438) rfl rfl rfl (by decide +kernel) ⟨Nat.le_of_ble_eq_true rfl, Nat.le_of_ble_eq_true rfl⟩) (m_preV hG) rfl rfl hl.1 rfl (lv_room (Nat.le_of_ble_eq_true rfl)) dX4_revise_2 ⟨Nat.le_of_ble_eq_true rfl, Nat.le_of_ble_eq_true rfl⟩) hG (fun r_11 S_12 H locs hp hG => ?_)
      obtain ⟨rfl, rfl⟩ := hp
      have hG : mW X mo ad S s H locs := hG
      refine g_topz (y := -2) (by decide) ?_
      refine lv_istore_n (lv' := [(3, .int (zI (-2))), (0, .ref mo), (1, .int (zI (v1 : Int))), (2, .int (zI fo))]) hx hb dX4_revise_5 rfl hl (by decide) rfl (fun ls hl => ?_)
      refine lv_iload_n hx hb dX4_revise_6 rfl (lv_at hl 0 rfl) ?_
      refine lv_iconst (v := zI (-1)) hx hb dX4_revise_7 (by decide +kernel) ?_
      refine g_ceq (tgt := 24) hx hb dX4_revise_8 (by decide) (by omega) (fun h7 => ?_) (fun h7 => ?_)
      · exfalso; omega
      · refine lv_iload_n hx hb dX4_revise_11 rfl (lv_at hl 3 rfl) ?_
        refine lv_iconst (v := zI (-1)) hx hb dX4_revise_12 (by decide +kernel) ?_
        refine g_ceq (tgt := 30) hx hb dX4_revise_13 (by decide) (by omega) (fun h8 => ?_) (fun h8 => ?_)
        · refine lv_iload_n hx hb dX4_revise_30 rfl (lv_at hl 0 rfl) ?_
          refine g_ge (tgt := 40) hx hb dX4_revise_31 (by decide) (by decide) (fun h9 => ?_) (fun h9 => ?_)
          · exfalso; omega
          · refine lv_aload_n hx hb dX4_revise_34 rfl (lv_at hl 1 rfl) ?_
            refine lv_iload_n hx hb dX4_revise_35 rfl (lv_at hl 0 rfl) ?_
            refine g_topz (y := -((2 : Nat) : Int)) (by decide) ?_
            refine m_ci (va_runV (As := [.int (zI (-((2 : Nat) : Int)))]) (rest := []) ⟨hx, hb, hml, hown, hts⟩ (metX4_no 2 (by decide)) (cwV 1 hts (lw_V q3427 q3429 qs43 q102 q3430) rfl rfl rfl (by decide +kernel) ⟨Nat.le_of_ble_eq_true rfl, Nat.le_of_ble_eq_true rfl⟩) (m_preV hG) rfl rfl hl.1 rfl (lv_room (Nat.le_of_ble_eq_true rfl)) dX4_revise_36 ⟨Nat.le_of_ble_eq_true rfl, Nat.le_of_ble_eq_true rfl⟩) hG (fun r_13 S_14 H locs hp hG => ?_)
            obtain ⟨rfl, rfl⟩ := hp
            have hG : mW X mo ad (mNo S 2) s H locs := hG
            exact m_iret hx hb hr hlocks hG (by first | (exfalso; omega) | exact (hX.noR 2 (by unfold opRevise; (repeat (first | rw [if_pos (by omega)] | rw [if_neg (by omega)])); all_goals (try (simp only [Int.toNat_natCast, hsvv])); all_goals ((repeat (first | rw [if_pos (by omega)] | rw [if_neg (by omega)])) <;> rfl)))) ⟨Nat.le_of_ble_eq_true rfl, Nat.le_of_ble_eq_true rfl⟩ dX4_revise_39
        · refine lv_aload_n hx hb dX4_revise_16 rfl (lv_at hl 1 rfl) ?_
          refine lv_iload_n hx hb dX4_revise_17 rfl (lv_at hl 3 rfl) ?_
          have hq10 := hX.o.n
          have hQ10 := hA.w.n
          refine m_ci (va_runV (As := [.int (zI fo)]) (rest := []) ⟨hx, hb, hml, hown, hts⟩ (metX4_isRevision (by omega) (by omega)) (cwV 1 hts (lw_V q3481 q3483 qs48 q102 q3484) rfl rfl rfl (by decide +kernel) ⟨Nat.le_of_ble_eq_true rfl, Nat.le_of_ble_eq_true rfl⟩) (m_preV hG) rfl rfl hl.1 rfl (lv_room (Nat.le_of_ble_eq_true rfl)) dX4_revise_18 ⟨Nat.le_of_ble_eq_true rfl, Nat.le_of_ble_eq_true rfl⟩) hG (fun r_15 S_16 H locs hp hG => ?_)
          obtain ⟨b10, rfl, hb10, rfl⟩ := hp
          have hG : mW X mo ad S s H locs := hG
          refine g_ne (tgt := 30) hx hb dX4_revise_21 (by decide) (by omega) (fun h11 => ?_) (fun h11 => ?_)
          · refine lv_iload_n hx hb dX4_revise_30 rfl (lv_at hl 0 rfl) ?_
            refine g_ge (tgt := 40) hx hb dX4_revise_31 (by decide) (by decide) (fun h12 => ?_) (fun h12 => ?_)
            · exfalso; omega
            · refine lv_aload_n hx hb dX4_revise_34 rfl (lv_at hl 1 rfl) ?_
              refine lv_iload_n hx hb dX4_revise_35 rfl (lv_at hl 0 rfl) ?_
              refine g_topz (y := -((2 : Nat) : Int)) (by decide) ?_
              refine m_ci (va_runV (As := [.int (zI (-((2 : Nat) : Int)))]) (rest := []) ⟨hx, hb, hml, hown, hts⟩ (metX4_no 2 (by decide)) (cwV 1 hts (lw_V q3427 q3429 qs43 q102 q3430) rfl rfl rfl (by decide +kernel) ⟨Nat.le_of_ble_eq_true rfl, Nat.le_of_ble_eq_true rfl⟩) (m_preV hG) rfl rfl hl.1 rfl (lv_room (Nat.le_of_ble_eq_true rfl)) dX4_revise_36 ⟨Nat.le_of_ble_eq_true rfl, Nat.le_of_ble_eq_true rfl⟩) hG (fun r_17 S_18 H locs hp hG => ?_)
              obtain ⟨rfl, rfl⟩ := hp
              have hG : mW X mo ad (mNo S 2) s H locs := hG
              exact m_iret hx hb hr hlocks hG (by first | (exfalso; omega) | exact (hX.noR 2 (by unfold opRevise; (repeat (first | rw [if_pos (by omega)] | rw [if_neg (by omega)])); all_goals (try (simp only [Int.toNat_natCast, hsvv])); all_goals ((repeat (first | rw [if_pos (by omega)] | rw [if_neg (by omega)])) <;> rfl)))) ⟨Nat.le_of_ble_eq_true rfl, Nat.le_of_ble_eq_true rfl⟩ dX4_revise_39
          · refine lv_aload_n hx hb dX4_revise_24 rfl (lv_at hl 1 rfl) ?_
            refine lv_iconst (v := zI (-1)) hx hb dX4_revise_25 (by decide +kernel) ?_
            refine g_topz (y := -((1 : Nat) : Int)) (by decide) ?_
            refine m_ci (va_runV (As := [.int (zI (-((1 : Nat) : Int)))]) (rest := []) ⟨hx, hb, hml, hown, hts⟩ (metX4_no 1 (by decide)) (cwV 1 hts (lw_V q3427 q3429 qs43 q102 q3430) rfl rfl rfl (by decide +kernel) ⟨Nat.le_of_ble_eq_true rfl, Nat.le_of_ble_eq_true rfl⟩) (m_preV hG) rfl rfl hl.1 rfl (lv_room (Nat.le_of_ble_eq_true rfl)) dX4_revise_26 ⟨Nat.le_of_ble_eq_true rfl, Nat.le_of_ble_eq_true rfl⟩) hG (fun r_19 S_20 H locs hp hG => ?_)
            obtain ⟨rfl, rfl⟩ := hp
            have hG : mW X mo ad (mNo S 1) s H locs := hG
            exact m_iret hx hb hr hlocks hG (by first | (exfalso; omega) | exact (hX.noR 1 (by unfold opRevise; (repeat (first | rw [if_pos (by omega)] | rw [if_neg (by omega)])); all_goals (try (simp only [Int.toNat_natCast, hsvv])); all_goals ((repeat (first | rw [if_pos (by omega)] | rw [if_neg (by omega)])) <;> rfl)))) ⟨Nat.le_of_ble_eq_true rfl, Nat.le_of_ble_eq_true rfl⟩ dX4_revise_29
    · rw [hsvv] at hshv hokv
      obtain ⟨hshv, hlnv, helv⟩ := hshv
      have hokv : sov ≤ 3 ∧ nv ≤ 160 := hokv
      refine lv_aload_n hx hb dX4_revise_0 rfl (lv_at hl 0 rfl) ?_
      refine lv_iload_n hx hb dX4_revise_1 rfl (lv_at hl 1 rfl) ?_
      refine m_ci (va_runV (As := [.int (zI (v1 : Int))]) (rest := []) ⟨hx, hb, hml, hown, hts⟩ (metX4_noRow hX hA (by omega) 0 (by unfold aBar; rw [if_neg (by omega)]; simp only [Int.toNat_natCast, hsvv])) (cwV 1 hts (lw_V q3435 q3437 qs44 q102 q3438) rfl rfl rfl (by decide +kernel) ⟨Nat.le_of_ble_eq_true rfl, Nat.le_of_ble_eq_true rfl⟩) (m_preV hG) rfl rfl hl.1 rfl (lv_room (Nat.le_of_ble_eq_true rfl)) dX4_revise_2 ⟨Nat.le_of_ble_eq_true rfl, Nat.le_of_ble_eq_true rfl⟩) hG (fun r_21 S_22 H locs hp hG => ?_)
      obtain ⟨rfl, rfl⟩ := hp
      have hG : mW X mo ad S s H locs := hG
      refine g_topz (y := 0) (by decide) ?_
      refine lv_istore_n (lv' := [(3, .int (zI 0)), (0, .ref mo), (1, .int (zI (v1 : Int))), (2, .int (zI fo))]) hx hb dX4_revise_5 rfl hl (by decide) rfl (fun ls hl => ?_)
      refine lv_iload_n hx hb dX4_revise_6 rfl (lv_at hl 0 rfl) ?_
      refine lv_iconst (v := zI (-1)) hx hb dX4_revise_7 (by decide +kernel) ?_
      refine g_ceq (tgt := 24) hx hb dX4_revise_8 (by decide) (by omega) (fun h13 => ?_) (fun h13 => ?_)
      · exfalso; omega
      · refine lv_iload_n hx hb dX4_revise_11 rfl (lv_at hl 3 rfl) ?_
        refine lv_iconst (v := zI (-1)) hx hb dX4_revise_12 (by decide +kernel) ?_
        refine g_ceq (tgt := 30) hx hb dX4_revise_13 (by decide) (by omega) (fun h14 => ?_) (fun h14 => ?_)
        · refine lv_iload_n hx hb dX4_revise_30 rfl (lv_at hl 0 rfl) ?_
          refine g_ge (tgt := 40) hx hb dX4_revise_31 (by decide) (by decide) (fun h15 => ?_) (fun h15 => ?_)
          · refine lv_aload_n hx hb dX4_revise_40 rfl (lv_at hl 1 rfl) ?_
            refine lv_aload_n hx hb dX4_revise_41 rfl (lv_at hl 1 rfl) ?_
            refine lv_iload_n hx hb dX4_revise_42 rfl (lv_at hl 2 rfl) ?_
            refine m_ci (va_runV (As := [.int (zI (v1 : Int))]) (rest := [.ref mo]) ⟨hx, hb, hml, hown, hts⟩ (metX4_reads (w := aWd a) (f := fv) (n := nv) hX.o hA.w ⟨by omega, by omega⟩ hlnv helv) (cwV 1 hts (lw_V q3485 q3487 qs49 q102 q3488) rfl rfl rfl (by decide +kernel) ⟨Nat.le_of_ble_eq_true rfl, Nat.le_of_ble_eq_true rfl⟩) (m_preV hG) rfl rfl hl.1 rfl (lv_room (Nat.le_of_ble_eq_true rfl)) dX4_revise_43 ⟨Nat.le_of_ble_eq_true rfl, Nat.le_of_ble_eq_true rfl⟩) hG (fun r_23 S_24 H locs hp hG => ?_)
            obtain ⟨rfl, hfr, htt⟩ := hp
            have hG : mW X mo ad S_24 s H locs := hG
            have hsz := hA.w.n
            rcases hrr : rdR (rwI fv) nv with t | k
            · refine g_topz (y := -1) rfl ?_
              have hXf := hX.rd hA hfr (-1)
              have hAf : aOK (aSetF a (-1)) := hA.fault (by omega)
              refine m_put 12 (by decide) rfl rfl (tyX4_ok 12 (by decide)) rfl rfl hx hb hts hown hG (hts _ q3308) dX4_revise_46 (fun H locs (hG : mW X mo ad (sI S_24 12 (-1)) s H locs) => ?_)
              refine lv_aload_n hx hb dX4_revise_49 rfl (lv_at hl 1 rfl) ?_
              refine m_get 12 (by decide) (v := .int (zI (-1))) rfl hx hb hts hown hG (hts _ q3308) dX4_revise_50 ?_
              refine lv_iconst (v := zI (-1)) hx hb dX4_revise_53 (by decide +kernel) ?_
              refine g_ceq (tgt := 64) hx hb dX4_revise_54 (by decide) (by omega) (fun hq => ?_) (fun hq => ?_)
              · refine lv_aload_n hx hb dX4_revise_64 rfl (lv_at hl 1 rfl) ?_
                refine m_get 0 (by decide) (v := .int (zI (wN (aWd a) : Int))) (congrArg (fun z => Value.int (zI z)) (show (sI S_24 12 (-1)).1 0 = (wN (aWd a) : Int) from hXf.o.n)) hx hb hts hown hG (hts _ q3296) dX4_revise_65 ?_
                refine lv_bipush (v := zI 16) hx hb dX4_revise_68 (by decide +kernel) ?_
                refine g_cne (tgt := 80) hx hb dX4_revise_70 (by decide) (by omega) (fun h6 => ?_) (fun h6 => ?_)
                · refine lv_aload_n hx hb dX4_revise_80 rfl (lv_at hl 1 rfl) ?_
                  refine lv_iload_n hx hb dX4_revise_81 rfl (lv_at hl 3 rfl) ?_
                  refine g_topz (y := oI (iO fo)) (oI_iO (by omega)).symm ?_
                  refine m_ci (va_runV (As := [.int (zI (oI (iO fo)))]) (rest := []) ⟨hx, hb, hml, hown, hts⟩ (metX4_comesTo (w := aWd a) (fo := iO fo) (t := t) hXf.o hA.w (by omega) (fun f hf => by have q := oI_iO (z := fo) (by omega); rw [hf, oI_some] at q; omega) (rdR_tx hrr) (htt t hrr).1 (htt t hrr).2) (cwV 1 hts (lw_V q3493 q3495 qs51 q102 q3496) rfl rfl rfl (by decide +kernel) ⟨Nat.le_of_ble_eq_true rfl, Nat.le_of_ble_eq_true rfl⟩) (m_preV hG) rfl rfl hl.1 rfl (lv_room (Nat.le_of_ble_eq_true rfl)) dX4_revise_82 ⟨Nat.le_of_ble_eq_true rfl, Nat.le_of_ble_eq_true rfl⟩) hG (fun r_25 S_26 H locs hp hG => ?_)
                  obtain ⟨rfl, hO9, hk14⟩ := hp
                  have hG : mW X mo ad S_26 s H locs := hG
                  exact m_iret hx hb hr hlocks hG (by rw [show opRevise a v1 fo = ((wN (aWd a) : Int), aSetW (aSetF a (-1)) (wAdd (aWd a) (iO fo) t)) from by unfold opRevise; rw [if_neg (by omega)]; simp only [Int.toNat_natCast, hsvv, hrr]; rw [if_neg (by omega)]]; exact ⟨rfl, hXf.dr hO9 hk14.kd⟩) ⟨Nat.le_of_ble_eq_true rfl, Nat.le_of_ble_eq_true rfl⟩ dX4_revise_85
                · refine lv_aload_n hx hb dX4_revise_73 rfl (lv_at hl 1 rfl) ?_
                  refine lv_bipush (v := zI (-7)) hx hb dX4_revise_74 (by decide +kernel) ?_
                  refine g_topz (y := -((7 : Nat) : Int)) (by decide) ?_
                  refine m_ci (va_runV (As := [.int (zI (-((7 : Nat) : Int)))]) (rest := []) ⟨hx, hb, hml, hown, hts⟩ (metX4_no 7 (by decide)) (cwV 1 hts (lw_V q3427 q3429 qs43 q102 q3430) rfl rfl rfl (by decide +kernel) ⟨Nat.le_of_ble_eq_true rfl, Nat.le_of_ble_eq_true rfl⟩) (m_preV hG) rfl rfl hl.1 rfl (lv_room (Nat.le_of_ble_eq_true rfl)) dX4_revise_76 ⟨Nat.le_of_ble_eq_true rfl, Nat.le_of_ble_eq_true rfl⟩) hG (fun r_27 S_28 H locs hp hG => ?_)
                  obtain ⟨rfl, rfl⟩ := hp
                  have hG : mW X mo ad (mNo (sI S_24 12 (-1)) 7) s H locs := hG
                  exact m_iret hx hb hr hlocks hG (hXf.noR 7 (by unfold opRevise; rw [if_neg (by omega)]; simp only [Int.toNat_natCast, hsvv, hrr]; rw [if_pos (by omega)])) ⟨Nat.le_of_ble_eq_true rfl, Nat.le_of_ble_eq_true rfl⟩ dX4_revise_79
              · exfalso; omega
            · have hkn := rdR_le hrr
              refine g_topz (y := (k : Int)) rfl ?_
              have hXf := hX.rd hA hfr (k : Int)
              refine m_put 12 (by decide) rfl rfl (tyX4_ok 12 (by decide)) rfl rfl hx hb hts hown hG (hts _ q3308) dX4_revise_46 (fun H locs (hG : mW X mo ad (sI S_24 12 (k : Int)) s H locs) => ?_)
              refine lv_aload_n hx hb dX4_revise_49 rfl (lv_at hl 1 rfl) ?_
              refine m_get 12 (by decide) (v := .int (zI (k : Int))) rfl hx hb hts hown hG (hts _ q3308) dX4_revise_50 ?_
              refine lv_iconst (v := zI (-1)) hx hb dX4_revise_53 (by decide +kernel) ?_
              refine g_ceq (tgt := 64) hx hb dX4_revise_54 (by decide) (by omega) (fun h6 => ?_) (fun h6 => ?_)
              · exfalso; omega
              · refine lv_aload_n hx hb dX4_revise_57 rfl (lv_at hl 1 rfl) ?_
                refine lv_bipush (v := zI (-6)) hx hb dX4_revise_58 (by decide +kernel) ?_
                refine g_topz (y := -((6 : Nat) : Int)) (by decide) ?_
                refine m_ci (va_runV (As := [.int (zI (-((6 : Nat) : Int)))]) (rest := []) ⟨hx, hb, hml, hown, hts⟩ (metX4_no 6 (by decide)) (cwV 1 hts (lw_V q3427 q3429 qs43 q102 q3430) rfl rfl rfl (by decide +kernel) ⟨Nat.le_of_ble_eq_true rfl, Nat.le_of_ble_eq_true rfl⟩) (m_preV hG) rfl rfl hl.1 rfl (lv_room (Nat.le_of_ble_eq_true rfl)) dX4_revise_60 ⟨Nat.le_of_ble_eq_true rfl, Nat.le_of_ble_eq_true rfl⟩) hG (fun r_29 S_30 H locs hp hG => ?_)
                obtain ⟨rfl, rfl⟩ := hp
                have hG : mW X mo ad (mNo (sI S_24 12 (k : Int)) 6) s H locs := hG
                exact m_iret hx hb hr hlocks hG (hXf.noR 6 (by unfold opRevise; rw [if_neg (by omega)]; simp only [Int.toNat_natCast, hsvv, hrr])) ⟨Nat.le_of_ble_eq_true rfl, Nat.le_of_ble_eq_true rfl⟩ dX4_revise_63
          · exfalso; omega
        · refine lv_aload_n hx hb dX4_revise_16 rfl (lv_at hl 1 rfl) ?_
          refine lv_iload_n hx hb dX4_revise_17 rfl (lv_at hl 3 rfl) ?_
          have hq16 := hX.o.n
          have hQ16 := hA.w.n
          refine m_ci (va_runV (As := [.int (zI fo)]) (rest := []) ⟨hx, hb, hml, hown, hts⟩ (metX4_isRevision (by omega) (by omega)) (cwV 1 hts (lw_V q3481 q3483 qs48 q102 q3484) rfl rfl rfl (by decide +kernel) ⟨Nat.le_of_ble_eq_true rfl, Nat.le_of_ble_eq_true rfl⟩) (m_preV hG) rfl rfl hl.1 rfl (lv_room (Nat.le_of_ble_eq_true rfl)) dX4_revise_18 ⟨Nat.le_of_ble_eq_true rfl, Nat.le_of_ble_eq_true rfl⟩) hG (fun r_31 S_32 H locs hp hG => ?_)
          obtain ⟨b16, rfl, hb16, rfl⟩ := hp
          have hG : mW X mo ad S s H locs := hG
          refine g_ne (tgt := 30) hx hb dX4_revise_21 (by decide) (by omega) (fun h17 => ?_) (fun h17 => ?_)
          · refine lv_iload_n hx hb dX4_revise_30 rfl (lv_at hl 0 rfl) ?_
            refine g_ge (tgt := 40) hx hb dX4_revise_31 (by decide) (by decide) (fun h18 => ?_) (fun h18 => ?_)
            · refine lv_aload_n hx hb dX4_revise_40 rfl (lv_at hl 1 rfl) ?_
              refine lv_aload_n hx hb dX4_revise_41 rfl (lv_at hl 1 rfl) ?_
              refine lv_iload_n hx hb dX4_revise_42 rfl (lv_at hl 2 rfl) ?_
              refine m_ci (va_runV (As := [.int (zI (v1 : Int))]) (rest := [.ref mo]) ⟨hx, hb, hml, hown, hts⟩ (metX4_reads (w := aWd a) (f := fv) (n := nv) hX.o hA.w ⟨by omega, by omega⟩ hlnv helv) (cwV 1 hts (lw_V q3485 q3487 qs49 q102 q3488) rfl rfl rfl (by decide +kernel) ⟨Nat.le_of_ble_eq_true rfl, Nat.le_of_ble_eq_true rfl⟩) (m_preV hG) rfl rfl hl.1 rfl (lv_room (Nat.le_of_ble_eq_true rfl)) dX4_revise_43 ⟨Nat.le_of_ble_eq_true rfl, Nat.le_of_ble_eq_true rfl⟩) hG (fun r_33 S_34 H locs hp hG => ?_)
              obtain ⟨rfl, hfr, htt⟩ := hp
              have hG : mW X mo ad S_34 s H locs := hG
              have hsz := hA.w.n
              rcases hrr : rdR (rwI fv) nv with t | k
              · refine g_topz (y := -1) rfl ?_
                have hXf := hX.rd hA hfr (-1)
                have hAf : aOK (aSetF a (-1)) := hA.fault (by omega)
                refine m_put 12 (by decide) rfl rfl (tyX4_ok 12 (by decide)) rfl rfl hx hb hts hown hG (hts _ q3308) dX4_revise_46 (fun H locs (hG : mW X mo ad (sI S_34 12 (-1)) s H locs) => ?_)
                refine lv_aload_n hx hb dX4_revise_49 rfl (lv_at hl 1 rfl) ?_
                refine m_get 12 (by decide) (v := .int (zI (-1))) rfl hx hb hts hown hG (hts _ q3308) dX4_revise_50 ?_
                refine lv_iconst (v := zI (-1)) hx hb dX4_revise_53 (by decide +kernel) ?_
                refine g_ceq (tgt := 64) hx hb dX4_revise_54 (by decide) (by omega) (fun hq => ?_) (fun hq => ?_)
                · refine lv_aload_n hx hb dX4_revise_64 rfl (lv_at hl 1 rfl) ?_
                  refine m_get 0 (by decide) (v := .int (zI (wN (aWd a) : Int))) (congrArg (fun z => Value.int (zI z)) (show (sI S_34 12 (-1)).1 0 = (wN (aWd a) : Int) from hXf.o.n)) hx hb hts hown hG (hts _ q3296) dX4_revise_65 ?_
                  refine lv_bipush (v := zI 16) hx hb dX4_revise_68 (by decide +kernel) ?_
                  refine g_cne (tgt := 80) hx hb dX4_revise_70 (by decide) (by omega) (fun h6 => ?_) (fun h6 => ?_)
                  · refine lv_aload_n hx hb dX4_revise_80 rfl (lv_at hl 1 rfl) ?_
                    refine lv_iload_n hx hb dX4_revise_81 rfl (lv_at hl 3 rfl) ?_
                    refine g_topz (y := oI (iO fo)) (oI_iO (by omega)).symm ?_
                    refine m_ci (va_runV (As := [.int (zI (oI (iO fo)))]) (rest := []) ⟨hx, hb, hml, hown, hts⟩ (metX4_comesTo (w := aWd a) (fo := iO fo) (t := t) hXf.o hA.w (by omega) (fun f hf => by have q := oI_iO (z := fo) (by omega); rw [hf, oI_some] at q; omega) (rdR_tx hrr) (htt t hrr).1 (htt t hrr).2) (cwV 1 hts (lw_V q3493 q3495 qs51 q102 q3496) rfl rfl rfl (by decide +kernel) ⟨Nat.le_of_ble_eq_true rfl, Nat.le_of_ble_eq_true rfl⟩) (m_preV hG) rfl rfl hl.1 rfl (lv_room (Nat.le_of_ble_eq_true rfl)) dX4_revise_82 ⟨Nat.le_of_ble_eq_true rfl, Nat.le_of_ble_eq_true rfl⟩) hG (fun r_35 S_36 H locs hp hG => ?_)
                    obtain ⟨rfl, hO9, hk14⟩ := hp
                    have hG : mW X mo ad S_36 s H locs := hG
                    exact m_iret hx hb hr hlocks hG (by rw [show opRevise a v1 fo = ((wN (aWd a) : Int), aSetW (aSetF a (-1)) (wAdd (aWd a) (iO fo) t)) from by unfold opRevise; rw [if_neg (by omega)]; simp only [Int.toNat_natCast, hsvv, hrr]; rw [if_neg (by omega)]]; exact ⟨rfl, hXf.dr hO9 hk14.kd⟩) ⟨Nat.le_of_ble_eq_true rfl, Nat.le_of_ble_eq_true rfl⟩ dX4_revise_85
                  · refine lv_aload_n hx hb dX4_revise_73 rfl (lv_at hl 1 rfl) ?_
                    refine lv_bipush (v := zI (-7)) hx hb dX4_revise_74 (by decide +kernel) ?_
                    refine g_topz (y := -((7 : Nat) : Int)) (by decide) ?_
                    refine m_ci (va_runV (As := [.int (zI (-((7 : Nat) : Int)))]) (rest := []) ⟨hx, hb, hml, hown, hts⟩ (metX4_no 7 (by decide)) (cwV 1 hts (lw_V q3427 q3429 qs43 q102 q3430) rfl rfl rfl (by decide +kernel) ⟨Nat.le_of_ble_eq_true rfl, Nat.le_of_ble_eq_true rfl⟩) (m_preV hG) rfl rfl hl.1 rfl (lv_room (Nat.le_of_ble_eq_true rfl)) dX4_revise_76 ⟨Nat.le_of_ble_eq_true rfl, Nat.le_of_ble_eq_true rfl⟩) hG (fun r_37 S_38 H locs hp hG => ?_)
                    obtain ⟨rfl, rfl⟩ := hp
                    have hG : mW X mo ad (mNo (sI S_34 12 (-1)) 7) s H locs := hG
                    exact m_iret hx hb hr hlocks hG (hXf.noR 7 (by unfold opRevise; rw [if_neg (by omega)]; simp only [Int.toNat_natCast, hsvv, hrr]; rw [if_pos (by omega)])) ⟨Nat.le_of_ble_eq_true rfl, Nat.le_of_ble_eq_true rfl⟩ dX4_revise_79
                · exfalso; omega
              · have hkn := rdR_le hrr
                refine g_topz (y := (k : Int)) rfl ?_
                have hXf := hX.rd hA hfr (k : Int)
                refine m_put 12 (by decide) rfl rfl (tyX4_ok 12 (by decide)) rfl rfl hx hb hts hown hG (hts _ q3308) dX4_revise_46 (fun H locs (hG : mW X mo ad (sI S_34 12 (k : Int)) s H locs) => ?_)
                refine lv_aload_n hx hb dX4_revise_49 rfl (lv_at hl 1 rfl) ?_
                refine m_get 12 (by decide) (v := .int (zI (k : Int))) rfl hx hb hts hown hG (hts _ q3308) dX4_revise_50 ?_
                refine lv_iconst (v := zI (-1)) hx hb dX4_revise_53 (by decide +kernel) ?_
                refine g_ceq (tgt := 64) hx hb dX4_revise_54 (by decide) (by omega) (fun h6 => ?_) (fun h6 => ?_)
                · exfalso; omega
                · refine lv_aload_n hx hb dX4_revise_57 rfl (lv_at hl 1 rfl) ?_
                  refine lv_bipush (v := zI (-6)) hx hb dX4_revise_58 (by decide +kernel) ?_
                  refine g_topz (y := -((6 : Nat) : Int)) (by decide) ?_
                  refine m_ci (va_runV (As := [.int (zI (-((6 : Nat) : Int)))]) (rest := []) ⟨hx, hb, hml, hown, hts⟩ (metX4_no 6 (by decide)) (cwV 1 hts (lw_V q3427 q3429 qs43 q102 q3430) rfl rfl rfl (by decide +kernel) ⟨Nat.le_of_ble_eq_true rfl, Nat.le_of_ble_eq_true rfl⟩) (m_preV hG) rfl rfl hl.1 rfl (lv_room (Nat.le_of_ble_eq_true rfl)) dX4_revise_60 ⟨Nat.le_of_ble_eq_true rfl, Nat.le_of_ble_eq_true rfl⟩) hG (fun r_39 S_40 H locs hp hG => ?_)
                  obtain ⟨rfl, rfl⟩ := hp
                  have hG : mW X mo ad (mNo (sI S_34 12 (k : Int)) 6) s H locs := hG
                  exact m_iret hx hb hr hlocks hG (hXf.noR 6 (by unfold opRevise; rw [if_neg (by omega)]; simp only [Int.toNat_natCast, hsvv, hrr])) ⟨Nat.le_of_ble_eq_true rfl, Nat.le_of_ble_eq_true rfl⟩ dX4_revise_63
            · exfalso; omega
          · refine lv_aload_n hx hb dX4_revise_24 rfl (lv_at hl 1 rfl) ?_
            refine lv_iconst (v := zI (-1)) hx hb dX4_revise_25 (by decide +kernel) ?_
            refine g_topz (y := -((1 : Nat) : Int)) (by decide) ?_
            refine m_ci (va_runV (As := [.int (zI (-((1 : Nat) : Int)))]) (rest := []) ⟨hx, hb, hml, hown, hts⟩ (metX4_no 1 (by decide)) (cwV 1 hts (lw_V q3427 q3429 qs43 q102 q3430) rfl rfl rfl (by decide +kernel) ⟨Nat.le_of_ble_eq_true rfl, Nat.le_of_ble_eq_true rfl⟩) (m_preV hG) rfl rfl hl.1 rfl (lv_room (Nat.le_of_ble_eq_true rfl)) dX4_revise_26 ⟨Nat.le_of_ble_eq_true rfl, Nat.le_of_ble_eq_true rfl⟩) hG (fun r_41 S_42 H locs hp hG => ?_)
            obtain ⟨rfl, rfl⟩ := hp
            have hG : mW X mo ad (mNo S 1) s H locs := hG
            exact m_iret hx hb hr hlocks hG (by first | (exfalso; omega) | exact (hX.noR 1 (by unfold opRevise; (repeat (first | rw [if_pos (by omega)] | rw [if_neg (by omega)])); all_goals (try (simp only [Int.toNat_natCast, hsvv])); all_goals ((repeat (first | rw [if_pos (by omega)] | rw [if_neg (by omega)])) <;> rfl)))) ⟨Nat.le_of_ble_eq_true rfl, Nat.le_of_ble_eq_true rfl⟩ dX4_revise_29
  · refine lv_aload_n hx hb dX4_revise_0 rfl (lv_at hl 0 rfl) ?_
    refine lv_iload_n hx hb dX4_revise_1 rfl (lv_at hl 1 rfl) ?_
    refine m_ci (va_runV (As := [.int (zI v)]) (rest := []) ⟨hx, hb, hml, hown, hts⟩ (metX4_noRow hX hA (by omega) 1 (by unfold aBar; rw [if_pos (by omega)])) (cwV 1 hts (lw_V q3435 q3437 qs44 q102 q3438) rfl rfl rfl (by decide +kernel) ⟨Nat.le_of_ble_eq_true rfl, Nat.le_of_ble_eq_true rfl⟩) (m_preV hG) rfl rfl hl.1 rfl (lv_room (Nat.le_of_ble_eq_true rfl)) dX4_revise_2 ⟨Nat.le_of_ble_eq_true rfl, Nat.le_of_ble_eq_true rfl⟩) hG (fun r_43 S_44 H locs hp hG => ?_)
    obtain ⟨rfl, rfl⟩ := hp
    have hG : mW X mo ad S s H locs := hG
    refine g_topz (y := -1) (by decide) ?_
    refine lv_istore_n (lv' := [(3, .int (zI (-1))), (0, .ref mo), (1, .int (zI v)), (2, .int (zI fo))]) hx hb dX4_revise_5 rfl hl (by decide) rfl (fun ls hl => ?_)
    refine lv_iload_n hx hb dX4_revise_6 rfl (lv_at hl 0 rfl) ?_
    refine lv_iconst (v := zI (-1)) hx hb dX4_revise_7 (by decide +kernel) ?_
    refine g_ceq (tgt := 24) hx hb dX4_revise_8 (by decide) (by omega) (fun h19 => ?_) (fun h19 => ?_)
    · refine lv_aload_n hx hb dX4_revise_24 rfl (lv_at hl 1 rfl) ?_
      refine lv_iconst (v := zI (-1)) hx hb dX4_revise_25 (by decide +kernel) ?_
      refine g_topz (y := -((1 : Nat) : Int)) (by decide) ?_
      refine m_ci (va_runV (As := [.int (zI (-((1 : Nat) : Int)))]) (rest := []) ⟨hx, hb, hml, hown, hts⟩ (metX4_no 1 (by decide)) (cwV 1 hts (lw_V q3427 q3429 qs43 q102 q3430) rfl rfl rfl (by decide +kernel) ⟨Nat.le_of_ble_eq_true rfl, Nat.le_of_ble_eq_true rfl⟩) (m_preV hG) rfl rfl hl.1 rfl (lv_room (Nat.le_of_ble_eq_true rfl)) dX4_revise_26 ⟨Nat.le_of_ble_eq_true rfl, Nat.le_of_ble_eq_true rfl⟩) hG (fun r_45 S_46 H locs hp hG => ?_)
      obtain ⟨rfl, rfl⟩ := hp
      have hG : mW X mo ad (mNo S 1) s H locs := hG
      exact m_iret hx hb hr hlocks hG (by first | (exfalso; omega) | exact (hX.noR 1 (by unfold opRevise; all_goals ((repeat (first | rw [if_pos (by omega)] | rw [if_neg (by omega)])) <;> rfl)))) ⟨Nat.le_of_ble_eq_true rfl, Nat.le_of_ble_eq_true rfl⟩ dX4_revise_29
    · exfalso; omega

