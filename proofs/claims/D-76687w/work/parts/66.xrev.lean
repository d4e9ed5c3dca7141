set_option maxRecDepth 100000
theorem isLine.uniq {X : gX} {F : gF} {a : Nat} {cs ds : Ln} (h : isLine X F a cs) (k : isLine X F a ds) : cs = ds := by
  obtain ⟨b, f, h1, h2, h3, h4, h5⟩ := h
  obtain ⟨b', f', k1, k2, k3, k4, k5⟩ := k
  have e1 : oB ciLine [.ref b] = oB ciLine [.ref b'] := Option.some.inj (h1.symm.trans k1)
  have eb : b = b' := by injection e1 with e; injection e with _ e; injection e with e; injection e
  subst eb
  have e2 : aI (gT X 2) cs.length f = aI (gT X 2) ds.length f' := Option.some.inj (h2.symm.trans k2)
  have el : cs.length = ds.length := by injection e2 with e; injection e with _ e; injection e with e
  have ef : f = f' := by injection e2 with e; injection e with _ e; injection e with _ e; injection e
  subst ef
  refine ln_ext el fun j hj => ?_
  have g1 := h3 j hj
  have g2 := k3 j (by omega)
  have l1 := ln_le h5 j
  have l2 := ln_le k5 j
  have := zI_inj ⟨by omega, by omega⟩ ⟨by omega, by omega⟩ (g1.symm.trans g2)
  omega
theorem isText.uniq {X : gX} {F : gF} {a : Nat} {t u : Tx} (h : isText X F a t) (k : isText X F a u) : t = u := by
  obtain ⟨f, h1, h2, h3⟩ := h
  obtain ⟨f', k1, k2, k3⟩ := k
  have e2 : aR (gT X 6) t.length f = aR (gT X 6) u.length f' := Option.some.inj (h1.symm.trans k1)
  have el : t.length = u.length := by injection e2 with e; injection e with _ e; injection e with e
  have ef : f = f' := by injection e2 with e; injection e with _ e; injection e with _ e; injection e with e; injection e with e; injection e with e; injection e
  subst ef
  refine List.ext_getElem? fun i => ?_
  rcases Nat.lt_or_ge i t.length with hi | hi
  · obtain ⟨b, q1, q2⟩ := h3 i _ (gD_some hi)
    obtain ⟨b', p1, p2⟩ := k3 i _ (gD_some (show i < u.length by omega))
    have : b = b' := Option.some.inj (q1.symm.trans p1)
    subst this
    rw [gD_some hi, gD_some (show i < u.length by omega), q2.uniq p2]
  · rw [List.getElem?_eq_none hi, List.getElem?_eq_none (by omega)]
/-- a world's revisions: their addresses ra, their texts' la -/
def xRv (X : gX) (F : gF) (w : aW) (ra la : Nat → Nat) : Prop := ∀ r, r < wN w → F.2 (ra r) = some (r, (wFo w r).map ra, la r) ∧ isText X F (la r) (wTx w r)
theorem xRv.mono {X : gX} {F G : gF} {w : aW} {ra la : Nat → Nat} (h : xRv X F w ra la) (hl : gLe F G) : xRv X G w ra la := fun r hr => ⟨hl.2 _ _ (h r hr).1, (h r hr).2.mono hl⟩
theorem xRv.inj {X : gX} {F : gF} {w : aW} {ra la : Nat → Nat} (h : xRv X F w ra la) {r t : Nat} (hr : r < wN w) (ht : t < wN w) (e : ra r = ra t) : r = t := by
  have h1 := (h r hr).1
  have h2 := (h t ht).1
  rw [e, h2] at h1
  injection h1 with h1
  injection h1 with h1
  exact h1.symm
def bhO (fo : Nat → Option Nat) (r : Nat) : Option Nat → Bool
  | none => false
  | some u => (beh fo u r).isSome
section G10
variable {p : Program} {l : Launch} {e : Env} {R : Room} {s : State} {m : MethodId} {args : Array Value} {below : List Frame} {meth : Method} {c : Code} {H : Heap} {locs : List Loc} {cells slots : Nat} {Q : State → Prop}
variable {cc : ByteArray} {pc : Nat} {ls : Array Slot} {rest : List Value} {X : gX} {F : gF} {V : gV} {ws : va_W} {a : Nat}
/-- a revision's cache is written -/
theorem g_putR (hx : p.tables.exec = Jvm.exec) (hb : c.code = cc) {own ref : String} {index : Nat} (hts : ∀ w ∈ lw_all, w.before args s = true) (hown : s.vm.findClass own = some m.cls) (hG : gW X F V ws s H locs) {rv : gRv} (hk : F.2 a = some rv) (hlink : (Cond.fieldLink own index ref (TX14 3).2.1 (TX14 3).2.2.1).before args s = true) (hsame : ∀ x, s.fieldFound? (TX14 3).1 (TX14 3).2.1 (TX14 3).2.2.1 = some x → s.fieldFound? ref (TX14 3).2.1 (TX14 3).2.2.1 = some x) {v : Nat} (hv : gCache X F rv (.ref v)) (d : decode cc pc = .ok (.putfield index, 3))
    (kk : ∀ (H1 : Heap) (locs1 : List Loc), va_at X.1 gCL (a, oB ciRev [.int (zI rv.1), va_rf rv.2.1, .ref rv.2.2, .ref v]) H1 → gW X F V ws s H1 locs1 → W p l e R s m args below meth c H1 locs1 cells slots Q (F0 m (pc + 3) ls rest)) : W p l e R s m args below meth c H locs cells slots Q (F0 m pc ls (.ref v :: .ref a :: rest)) := by
  obtain ⟨vc, hat, -⟩ := hG.rv hk
  exact g_put0 hx hb hts in_X14 tyX14 tyX14_ok nmX14 hown hG hat (ci := ciRev) rfl 3 (Nat.le_of_ble_eq_true rfl) hlink hsame rfl (tyX14_ok 3 (Nat.le_of_ble_eq_true rfl)) rfl rfl (Nat.le_of_ble_eq_true rfl) d fun H1 _ e1 e2 e3 => kk H1 _ e1 (hG.wrR hk e1 hv e2 e3)
end G10
set_option maxHeartbeats 4000000 in
theorem metX14_at {l : Launch} {X : gX} {F : gF} {V : gV} {Z : va_W} {rv lt : Nat} {fo9 : Option Nat} {t : Tx} {i : Int} {nn : Nat} (hrv : F.2 rv = some (nn, fo9, lt)) (htx : isText X F lt t) (hr0 : -2147483648 ≤ i ∧ i < 2147483648) : Met l yX14_at (ws_ yX14_at cX14_at 2 (some (FieldType.object "LineRemarks$Line"))) ({ frames := 0, cells := 0, slots := 0, locals := 0 }) (gP X F V (Z) [.ref rv, .int (zI i)]) (gQq X (fun u G U ws => (((i < 0 ∨ (t.length : Int) ≤ i) ∧ u = none) ∨ (0 ≤ i ∧ i < t.length ∧ ∃ a9 : Nat, u = some a9 ∧ isLine X F a9 (t.getD i.toNat []))) ∧ F = G ∧ V = U ∧ Z = ws)) 0 0 (gA X) := by
  refine Met.g (by decide) (Nat.le_of_ble_eq_true rfl) ?_
  intro p e s m below meth c ls hx hb hr hts hown hlocks hml hin hG hl
  have hl : lv_has ls 2 [(0, .ref rv), (1, .int (zI i))] := hl
  obtain ⟨gt, hgt1, hgt2, hgt3⟩ := htx
  have hgtl := hgt2
  refine lv_iload_n hx hb dX14_at_0 rfl (lv_at hl 1 rfl) ?_
  refine g_lt (tgt := 22) hx hb dX14_at_1 (by decide) (by omega) (fun h1 => ?_) (fun h1 => ?_)
  · refine lv_null hx hb dX14_at_22 ?_
    exact g_qret none rfl hx hb hr (Or.inl ⟨_, rfl⟩) hlocks hG (⟨Or.inl ⟨by omega, rfl⟩, rfl, rfl, rfl⟩) ⟨Nat.le_of_ble_eq_true rfl, Nat.le_of_ble_eq_true rfl⟩ dX14_at_23
  · refine lv_iload_n hx hb dX14_at_4 rfl (lv_at hl 1 rfl) ?_
    refine lv_aload_n hx hb dX14_at_5 rfl (lv_at hl 0 rfl) ?_
    obtain ⟨vc_1, hrvc_1, hgvc_1⟩ := hG.rv hrv
    refine g_get (ci := 12) hx hb hts in_X14 hown hG hrvc_1 rfl 2 (Nat.le_of_ble_eq_true rfl) (hts _ q1725) (fun _ h9 => h9) rfl dX14_at_6 ?_
    refine g_alen hx hb hG 6 rfl (hG.fz hgt1) dX14_at_9 ?_
    refine g_cge (tgt := 22) hx hb dX14_at_10 (by decide) (by omega) (fun h2 => ?_) (fun h2 => ?_)
    · refine lv_null hx hb dX14_at_22 ?_
      exact g_qret none rfl hx hb hr (Or.inl ⟨_, rfl⟩) hlocks hG (⟨Or.inl ⟨by omega, rfl⟩, rfl, rfl, rfl⟩) ⟨Nat.le_of_ble_eq_true rfl, Nat.le_of_ble_eq_true rfl⟩ dX14_at_23
    · obtain ⟨i1, rfl⟩ : ∃ z : Nat, i = z := ⟨i.toNat, by omega⟩
      refine lv_aload_n hx hb dX14_at_13 rfl (lv_at hl 0 rfl) ?_
      obtain ⟨vc_2, hrvc_2, hgvc_2⟩ := hG.rv hrv
      refine g_get (ci := 12) hx hb hts in_X14 hown hG hrvc_2 rfl 2 (Nat.le_of_ble_eq_true rfl) (hts _ q1725) (fun _ h9 => h9) rfl dX14_at_14 ?_
      refine lv_iload_n hx hb dX14_at_17 rfl (lv_at hl 1 rfl) ?_
      obtain ⟨lb, hlb1, hlb2⟩ := hgt3 i1 (t.getD i1 []) (gD_some (by omega))
      refine g_aald hx hb hG 6 rfl rfl (hG.fz hgt1) i1 ⟨rfl, by omega, by omega⟩ (v := .ref lb) (congrArg va_rf hlb1) dX14_at_18 ?_
      refine lv_goto (tgt := 23) hx hb dX14_at_19 (by decide) ?_
      exact g_qret (some lb) rfl hx hb hr (Or.inl ⟨_, rfl⟩) hlocks hG (⟨Or.inr ⟨by omega, by omega, lb, rfl, hlb2⟩, rfl, rfl, rfl⟩) ⟨Nat.le_of_ble_eq_true rfl, Nat.le_of_ble_eq_true rfl⟩ dX14_at_23

set_option maxHeartbeats 4000000 in
theorem metX14_isBehind {l : Launch} {X : gX} {F : gF} {V : gV} {Z : va_W} {t r : Nat} {w : aW} {ra la : Nat → Nat} (hR : xRv X F w ra la) (hK : wOK w) (ht9 : t < wN w) (hr9 : r < wN w) : Met l yX14_isBehind (ws_ yX14_isBehind cX14_isBehind 3 (some FieldType.boolean)) ({ frames := 0, cells := 0, slots := 0, locals := 0 }) (gP X F V (Z) [.ref (ra t), .ref (ra r)]) (gQi X (fun u G U ws => u = zI (bI (beh (wFo w) t r).isSome) ∧ F = G ∧ V = U ∧ Z = ws)) 0 0 (gA X) := by
  refine Met.g (by decide) (Nat.le_of_ble_eq_true rfl) ?_
  intro p e s m below meth c ls hx hb hr hts hown hlocks hml hin hG hl
  have hl : lv_has ls 3 [(0, .ref (ra t)), (1, .ref (ra r))] := hl
  refine lv_aload_n hx hb dX14_isBehind_0 rfl (lv_at hl 0 rfl) ?_
  refine lv_astore_n (lv' := [(2, .ref (ra t)), (0, .ref (ra t)), (1, .ref (ra r))]) hx hb dX14_isBehind_1 rfl hl (by decide) rfl (fun ls hl => ?_)
  refine g_loop (fun mz H locs ls => ∃ (o : Option Nat), ((∀ x, o = some x → x < wN w) ∧ mz = (match o with | none => 0 | some z => z + 1) ∧ (beh (wFo w) t r).isSome = bhO (wFo w) r o) ∧ gW X F V (Z) s H locs ∧ lv_has ls 3 [(0, .ref (ra t)), (1, .ref (ra r)), (2, va_rf (o.map ra))]) (t + 1) ⟨(some t), ⟨fun x hx => by cases hx; exact ht9, rfl, rfl⟩, hG, (lv_sub hl [1, 2, 0] rfl)⟩ (fun mz ihA H locs ls hI => ?_)
  obtain ⟨o, ⟨hob, hmz, hbh⟩, hG, hl⟩ := hI
  rcases o with _ | c0
  · have hl : lv_has ls 3 [(0, .ref (ra t)), (1, .ref (ra r)), (2, .null)] := hl
    refine lv_aload_nN hx hb dX14_isBehind_2 rfl (lv_at hl 2 rfl) ?_
    refine lv_ifnullN (tgt := 19) hx hb dX14_isBehind_3 (by decide) ?_
    refine lv_aload_nN hx hb dX14_isBehind_19 rfl (lv_at hl 2 rfl) ?_
    refine lv_aload_n hx hb dX14_isBehind_20 rfl (lv_at hl 1 rfl) ?_
    refine lv_acmp_ne (rx := none) (ry := (some (ra r))) (tgt := 28) hx hb dX14_isBehind_21 (by decide) (fun h1 => ?_) (fun h1 => ?_)
    · refine lv_iconst (v := zI 0) hx hb dX14_isBehind_28 (by decide +kernel) ?_
      exact g_zret hx hb hr hlocks rfl hG (⟨by rw [hbh]; rfl, rfl, rfl, rfl⟩) ⟨Nat.le_of_ble_eq_true rfl, Nat.le_of_ble_eq_true rfl⟩ dX14_isBehind_29
    · cases h1
  · have hc := hob c0 rfl
    have hmz : mz = c0 + 1 := hmz
    have hl : lv_has ls 3 [(0, .ref (ra t)), (1, .ref (ra r)), (2, .ref (ra c0))] := hl
    refine lv_aload_n hx hb dX14_isBehind_2 rfl (lv_at hl 2 rfl) ?_
    refine lv_ifnull hx hb dX14_isBehind_3 ?_
    refine lv_aload_n hx hb dX14_isBehind_6 rfl (lv_at hl 2 rfl) ?_
    refine lv_aload_n hx hb dX14_isBehind_7 rfl (lv_at hl 1 rfl) ?_
    refine lv_acmp_eq (rx := (some (ra c0))) (ry := (some (ra r))) (tgt := 19) hx hb dX14_isBehind_8 (by decide) (fun h1 => ?_) (fun h1 => ?_)
    · have hcr := hR.inj hc hr9 (Option.some.inj h1)
      refine lv_aload_n hx hb dX14_isBehind_19 rfl (lv_at hl 2 rfl) ?_
      refine lv_aload_n hx hb dX14_isBehind_20 rfl (lv_at hl 1 rfl) ?_
      refine lv_acmp_ne (rx := (some (ra c0))) (ry := (some (ra r))) (tgt := 28) hx hb dX14_isBehind_21 (by decide) (fun h2 => ?_) (fun h2 => ?_)
      · exact absurd h1 h2
      · refine lv_iconst (v := zI 1) hx hb dX14_isBehind_24 (by decide +kernel) ?_
        refine lv_goto (tgt := 29) hx hb dX14_isBehind_25 (by decide) ?_
        exact g_zret hx hb hr hlocks rfl hG (⟨by rw [hbh, hcr]; show _ = zI (bI (beh (wFo w) r r).isSome); rw [beh_self]; rfl, rfl, rfl, rfl⟩) ⟨Nat.le_of_ble_eq_true rfl, Nat.le_of_ble_eq_true rfl⟩ dX14_isBehind_29
    · have hcr : c0 ≠ r := fun q => h1 (by rw [q])
      refine lv_aload_n hx hb dX14_isBehind_11 rfl (lv_at hl 2 rfl) ?_
      obtain ⟨vc_1, hrvc_1, hgvc_1⟩ := hG.rv (hR c0 (by omega)).1
      refine g_get (ci := 12) hx hb hts in_X14 hown hG hrvc_1 rfl 1 (Nat.le_of_ble_eq_true rfl) (hts _ q1722) (fun _ h9 => h9) rfl dX14_isBehind_12 ?_
      refine g_astore_nq (lv' := [(2, va_rf ((wFo w c0).map ra)), (0, .ref (ra t)), (1, .ref (ra r))]) hx hb dX14_isBehind_15 rfl hl (by decide) rfl (fun ls hl => ?_)
      refine lv_goto (tgt := 2) hx hb dX14_isBehind_16 (by decide) ?_
      exact ihA (match wFo w c0 with | none => 0 | some z => z + 1) (by cases hq : wFo w c0 with | none => (show 0 < mz; omega) | some z => (have := hK.fo c0 z hq; show z + 1 < mz; omega)) H locs ls ⟨(wFo w c0), ⟨fun x hx => by have := hK.fo c0 x hx; omega, rfl, by rw [hbh]; show (beh (wFo w) c0 r).isSome = bhO (wFo w) r (wFo w c0); rw [beh_step hK.fo hcr]; cases wFo w c0 with | none => rfl | some z => (show (Option.map _ (beh (wFo w) z r)).isSome = (beh (wFo w) z r).isSome; cases beh (wFo w) z r <;> rfl)⟩, hG, (lv_sub hl [1, 2, 0] rfl)⟩

set_option maxHeartbeats 4000000 in
theorem metX14_init_n {l : Launch} {X : gX} {F : gF} {V : gV} {Z : va_W} {rv lt : Nat} {n : Int} : Met l yX14_init (ws_ yX14_init cX14_init 4 none) ({ frames := 1, cells := 0, slots := 0, locals := 20 }) (gP X F V ((rv, oB 12 [.int (zI 0), .null, .null, .null]) :: Z) [.ref rv, .int (zI n), .null, .ref lt]) (gQv X (fun G U ws => F = G ∧ V = U ∧ ((rv, oB ciRev [.int (zI n), .null, .ref lt, .null]) :: Z) = ws)) 0 0 (gA X) := by
  refine Met.g (by decide) (Nat.le_of_ble_eq_true rfl) ?_
  intro p e s m below meth c ls hx hb hr hts hown hlocks hml hin hG hl
  have hl : lv_has ls 4 [(0, .ref rv), (1, .int (zI n)), (2, .null), (3, .ref lt)] := hl
  refine lv_aload_n hx hb dX14_init_0 rfl (lv_at hl 0 rfl) ?_
  refine W.objInit hx hb hown (hts _ q1718) (hts _ q170) (hts _ q171) rfl (by rw [hml]; exact hl.1) rfl dX14_init_1 (Nat.le_of_ble_eq_true rfl) (Nat.le_of_ble_eq_true rfl) ?_
  refine W.eq (g2 := F0 m 4 ls []) rfl ?_
  refine lv_aload_n hx hb dX14_init_4 rfl (lv_at hl 0 rfl) ?_
  refine lv_iload_n hx hb dX14_init_5 rfl (lv_at hl 1 rfl) ?_
  refine g_putF (ci := 12) hx hb hts in_X14 tyX14 tyX14_ok nmX14 hown hin hG 0 rfl rfl 0 (Nat.le_of_ble_eq_true rfl) (hts _ q1719) (fun _ h9 => h9) rfl rfl (tyX14_ok 0 (Nat.le_of_ble_eq_true rfl)) rfl rfl (Nat.le_of_ble_eq_true rfl) dX14_init_6 (fun H locs (hG : gW X F V ((rv, oB 12 [.int (zI n), .null, .null, .null]) :: Z) s H locs) => ?_)
  refine lv_aload_n hx hb dX14_init_9 rfl (lv_at hl 0 rfl) ?_
  refine lv_aload_nN hx hb dX14_init_10 rfl (lv_at hl 2 rfl) ?_
  refine g_putF (ci := 12) hx hb hts in_X14 tyX14 tyX14_ok nmX14 hown hin hG 0 rfl rfl 1 (Nat.le_of_ble_eq_true rfl) (hts _ q1722) (fun _ h9 => h9) rfl rfl (tyX14_ok 1 (Nat.le_of_ble_eq_true rfl)) rfl rfl (Nat.le_of_ble_eq_true rfl) dX14_init_11 (fun H locs (hG : gW X F V ((rv, oB 12 [.int (zI n), .null, .null, .null]) :: Z) s H locs) => ?_)
  refine lv_aload_n hx hb dX14_init_14 rfl (lv_at hl 0 rfl) ?_
  refine lv_aload_n hx hb dX14_init_15 rfl (lv_at hl 3 rfl) ?_
  refine g_putF (ci := 12) hx hb hts in_X14 tyX14 tyX14_ok nmX14 hown hin hG 0 rfl rfl 2 (Nat.le_of_ble_eq_true rfl) (hts _ q1725) (fun _ h9 => h9) rfl rfl (tyX14_ok 2 (Nat.le_of_ble_eq_true rfl)) rfl rfl (Nat.le_of_ble_eq_true rfl) dX14_init_16 (fun H locs (hG : gW X F V ((rv, oB 12 [.int (zI n), .null, .ref lt, .null]) :: Z) s H locs) => ?_)
  exact g_vret hx hb hr hlocks hG (⟨rfl, rfl, rfl⟩) ⟨Nat.le_of_ble_eq_true rfl, Nat.le_of_ble_eq_true rfl⟩ dX14_init_19

set_option maxHeartbeats 4000000 in
theorem metX14_init_s {l : Launch} {X : gX} {F : gF} {V : gV} {Z : va_W} {rv lt : Nat} {n : Int} {fo : Nat} : Met l yX14_init (ws_ yX14_init cX14_init 4 none) ({ frames := 1, cells := 0, slots := 0, locals := 20 }) (gP X F V ((rv, oB 12 [.int (zI 0), .null, .null, .null]) :: Z) [.ref rv, .int (zI n), .ref fo, .ref lt]) (gQv X (fun G U ws => F = G ∧ V = U ∧ ((rv, oB ciRev [.int (zI n), .ref fo, .ref lt, .null]) :: Z) = ws)) 0 0 (gA X) := by
  refine Met.g (by decide) (Nat.le_of_ble_eq_true rfl) ?_
  intro p e s m below meth c ls hx hb hr hts hown hlocks hml hin hG hl
  have hl : lv_has ls 4 [(0, .ref rv), (1, .int (zI n)), (2, .ref fo), (3, .ref lt)] := hl
  refine lv_aload_n hx hb dX14_init_0 rfl (lv_at hl 0 rfl) ?_
  refine W.objInit hx hb hown (hts _ q1718) (hts _ q170) (hts _ q171) rfl (by rw [hml]; exact hl.1) rfl dX14_init_1 (Nat.le_of_ble_eq_true rfl) (Nat.le_of_ble_eq_true rfl) ?_
  refine W.eq (g2 := F0 m 4 ls []) rfl ?_
  refine lv_aload_n hx hb dX14_init_4 rfl (lv_at hl 0 rfl) ?_
  refine lv_iload_n hx hb dX14_init_5 rfl (lv_at hl 1 rfl) ?_
  refine g_putF (ci := 12) hx hb hts in_X14 tyX14 tyX14_ok nmX14 hown hin hG 0 rfl rfl 0 (Nat.le_of_ble_eq_true rfl) (hts _ q1719) (fun _ h9 => h9) rfl rfl (tyX14_ok 0 (Nat.le_of_ble_eq_true rfl)) rfl rfl (Nat.le_of_ble_eq_true rfl) dX14_init_6 (fun H locs (hG : gW X F V ((rv, oB 12 [.int (zI n), .null, .null, .null]) :: Z) s H locs) => ?_)
  refine lv_aload_n hx hb dX14_init_9 rfl (lv_at hl 0 rfl) ?_
  refine lv_aload_n hx hb dX14_init_10 rfl (lv_at hl 2 rfl) ?_
  refine g_putF (ci := 12) hx hb hts in_X14 tyX14 tyX14_ok nmX14 hown hin hG 0 rfl rfl 1 (Nat.le_of_ble_eq_true rfl) (hts _ q1722) (fun _ h9 => h9) rfl rfl (tyX14_ok 1 (Nat.le_of_ble_eq_true rfl)) rfl rfl (Nat.le_of_ble_eq_true rfl) dX14_init_11 (fun H locs (hG : gW X F V ((rv, oB 12 [.int (zI n), .ref fo, .null, .null]) :: Z) s H locs) => ?_)
  refine lv_aload_n hx hb dX14_init_14 rfl (lv_at hl 0 rfl) ?_
  refine lv_aload_n hx hb dX14_init_15 rfl (lv_at hl 3 rfl) ?_
  refine g_putF (ci := 12) hx hb hts in_X14 tyX14 tyX14_ok nmX14 hown hin hG 0 rfl rfl 2 (Nat.le_of_ble_eq_true rfl) (hts _ q1725) (fun _ h9 => h9) rfl rfl (tyX14_ok 2 (Nat.le_of_ble_eq_true rfl)) rfl rfl (Nat.le_of_ble_eq_true rfl) dX14_init_16 (fun H locs (hG : gW X F V ((rv, oB 12 [.int (zI n), .ref fo, .ref lt, .null]) :: Z) s H locs) => ?_)
  exact g_vret hx hb hr hlocks hG (⟨rfl, rfl, rfl⟩) ⟨Nat.le_of_ble_eq_true rfl, Nat.le_of_ble_eq_true rfl⟩ dX14_init_19

