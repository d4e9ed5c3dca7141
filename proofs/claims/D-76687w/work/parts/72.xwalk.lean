set_option maxRecDepth 100000
section G12
variable {p : Program} {l : Launch} {e : Env} {R : Room} {s : State} {m : MethodId} {args : Array Value} {below : List Frame} {meth : Method} {c : Code} {H : Heap} {locs : List Loc} {cells slots : Nat} {Q : State → Prop}
variable {cc : ByteArray} {pc : Nat} {ls : Array Slot} {rest : List Value} {X : gX} {F : gF} {V : gV} {ws : va_W} {a : Nat}
/-- a field over a nest's link -/
theorem g_getN (hx : p.tables.exec = Jvm.exec) (hb : c.code = cc) {own ref C host : String} {T : u_T} {N ci index : Nat} (hts : ∀ w ∈ lw_all, w.before args s = true) (hin : ∀ w ∈ u_ws C T N, w ∈ lw_all) (hown : s.vm.findClass own = some m.cls) (hG : gW X F V ws s H locs) {fs : List Value} (hat : va_at X.1 gCL (a, oB ci fs) H) (hc : gCL[ci]? = some (C, T, N)) (k : Nat) (hk : k < N) (hlink : va_Nw (Cond.fieldLinkNest own index ref (T k).2.1 (T k).2.2.1 host) s) (hsame : ∀ x, s.fieldFound? (T k).1 (T k).2.1 (T k).2.2.1 = some x → s.fieldFound? ref (T k).2.1 (T k).2.2.1 = some x) {v : Value} (hv : fs[k]? = some v) (d : decode cc pc = .ok (.getfield index, 3))
    (kk : W p l e R s m args below meth c H locs cells slots Q (F0 m (pc + 3) ls (v :: rest))) : W p l e R s m args below meth c H locs cells slots Q (F0 m pc ls (.ref a :: rest)) :=
  va_getN hx hb hts hin hown hG.K (gone hat) 0 rfl hc k hk hlink hsame hv d kk
/-- a remark's field, whatever its kind -/
theorem g_rmget (hx : p.tables.exec = Jvm.exec) (hb : c.code = cc) {own : String} {kd index : Nat} (hkd : kd ≤ 6) (hts : ∀ w ∈ lw_all, w.before args s = true) (hown : s.vm.findClass own = some m.cls) (hG : gW X F V ws s H locs) {fs : List Value} (hat : va_at X.1 gCL (a, oB (14 + kd) fs) H) (k : Nat) (hk : k < 6) (hlink : (Cond.fieldLink own index "LineRemarks$Remark" (TX16 k).2.1 (TX16 k).2.2.1).before args s = true) {v : Value} (hv : fs[k]? = some v) (d : decode cc pc = .ok (.getfield index, 3))
    (kk : W p l e R s m args below meth c H locs cells slots Q (F0 m (pc + 3) ls (v :: rest))) : W p l e R s m args below meth c H locs cells slots Q (F0 m pc ls (.ref a :: rest)) := by
  obtain rfl | rfl | rfl | rfl | rfl | rfl | rfl : kd = 0 ∨ kd = 1 ∨ kd = 2 ∨ kd = 3 ∨ kd = 4 ∨ kd = 5 ∨ kd = 6 := by omega
  all_goals obtain rfl | rfl | rfl | rfl | rfl | rfl : k = 0 ∨ k = 1 ∨ k = 2 ∨ k = 3 ∨ k = 4 ∨ k = 5 := by omega
  · exact g_get (ci := 14) hx hb hts in_X16 hown hG hat rfl 0 (Nat.le_of_ble_eq_true rfl) hlink (fun _ h9 => h9) hv d kk
  · exact g_get (ci := 14) hx hb hts in_X16 hown hG hat rfl 1 (Nat.le_of_ble_eq_true rfl) hlink (fun _ h9 => h9) hv d kk
  · exact g_get (ci := 14) hx hb hts in_X16 hown hG hat rfl 2 (Nat.le_of_ble_eq_true rfl) hlink (fun _ h9 => h9) hv d kk
  · exact g_get (ci := 14) hx hb hts in_X16 hown hG hat rfl 3 (Nat.le_of_ble_eq_true rfl) hlink (fun _ h9 => h9) hv d kk
  · exact g_get (ci := 14) hx hb hts in_X16 hown hG hat rfl 4 (Nat.le_of_ble_eq_true rfl) hlink (fun _ h9 => h9) hv d kk
  · exact g_get (ci := 14) hx hb hts in_X16 hown hG hat rfl 5 (Nat.le_of_ble_eq_true rfl) hlink (fun _ h9 => h9) hv d kk
  · exact g_get (ci := 15) hx hb hts in_X17 hown hG hat rfl 0 (Nat.le_of_ble_eq_true rfl) hlink (fun _ h9 => h9) hv d kk
  · exact g_get (ci := 15) hx hb hts in_X17 hown hG hat rfl 1 (Nat.le_of_ble_eq_true rfl) hlink (fun _ h9 => h9) hv d kk
  · exact g_get (ci := 15) hx hb hts in_X17 hown hG hat rfl 2 (Nat.le_of_ble_eq_true rfl) hlink (fun _ h9 => h9) hv d kk
  · exact g_get (ci := 15) hx hb hts in_X17 hown hG hat rfl 3 (Nat.le_of_ble_eq_true rfl) hlink (fun _ h9 => h9) hv d kk
  · exact g_get (ci := 15) hx hb hts in_X17 hown hG hat rfl 4 (Nat.le_of_ble_eq_true rfl) hlink (fun _ h9 => h9) hv d kk
  · exact g_get (ci := 15) hx hb hts in_X17 hown hG hat rfl 5 (Nat.le_of_ble_eq_true rfl) hlink (fun _ h9 => h9) hv d kk
  · exact g_get (ci := 16) hx hb hts in_X18 hown hG hat rfl 0 (Nat.le_of_ble_eq_true rfl) hlink (fun _ h9 => h9) hv d kk
  · exact g_get (ci := 16) hx hb hts in_X18 hown hG hat rfl 1 (Nat.le_of_ble_eq_true rfl) hlink (fun _ h9 => h9) hv d kk
  · exact g_get (ci := 16) hx hb hts in_X18 hown hG hat rfl 2 (Nat.le_of_ble_eq_true rfl) hlink (fun _ h9 => h9) hv d kk
  · exact g_get (ci := 16) hx hb hts in_X18 hown hG hat rfl 3 (Nat.le_of_ble_eq_true rfl) hlink (fun _ h9 => h9) hv d kk
  · exact g_get (ci := 16) hx hb hts in_X18 hown hG hat rfl 4 (Nat.le_of_ble_eq_true rfl) hlink (fun _ h9 => h9) hv d kk
  · exact g_get (ci := 16) hx hb hts in_X18 hown hG hat rfl 5 (Nat.le_of_ble_eq_true rfl) hlink (fun _ h9 => h9) hv d kk
  · exact g_get (ci := 17) hx hb hts in_X19 hown hG hat rfl 0 (Nat.le_of_ble_eq_true rfl) hlink (fun _ h9 => h9) hv d kk
  · exact g_get (ci := 17) hx hb hts in_X19 hown hG hat rfl 1 (Nat.le_of_ble_eq_true rfl) hlink (fun _ h9 => h9) hv d kk
  · exact g_get (ci := 17) hx hb hts in_X19 hown hG hat rfl 2 (Nat.le_of_ble_eq_true rfl) hlink (fun _ h9 => h9) hv d kk
  · exact g_get (ci := 17) hx hb hts in_X19 hown hG hat rfl 3 (Nat.le_of_ble_eq_true rfl) hlink (fun _ h9 => h9) hv d kk
  · exact g_get (ci := 17) hx hb hts in_X19 hown hG hat rfl 4 (Nat.le_of_ble_eq_true rfl) hlink (fun _ h9 => h9) hv d kk
  · exact g_get (ci := 17) hx hb hts in_X19 hown hG hat rfl 5 (Nat.le_of_ble_eq_true rfl) hlink (fun _ h9 => h9) hv d kk
  · exact g_get (ci := 18) hx hb hts in_X20 hown hG hat rfl 0 (Nat.le_of_ble_eq_true rfl) hlink (fun _ h9 => h9) hv d kk
  · exact g_get (ci := 18) hx hb hts in_X20 hown hG hat rfl 1 (Nat.le_of_ble_eq_true rfl) hlink (fun _ h9 => h9) hv d kk
  · exact g_get (ci := 18) hx hb hts in_X20 hown hG hat rfl 2 (Nat.le_of_ble_eq_true rfl) hlink (fun _ h9 => h9) hv d kk
  · exact g_get (ci := 18) hx hb hts in_X20 hown hG hat rfl 3 (Nat.le_of_ble_eq_true rfl) hlink (fun _ h9 => h9) hv d kk
  · exact g_get (ci := 18) hx hb hts in_X20 hown hG hat rfl 4 (Nat.le_of_ble_eq_true rfl) hlink (fun _ h9 => h9) hv d kk
  · exact g_get (ci := 18) hx hb hts in_X20 hown hG hat rfl 5 (Nat.le_of_ble_eq_true rfl) hlink (fun _ h9 => h9) hv d kk
  · exact g_get (ci := 19) hx hb hts in_X21 hown hG hat rfl 0 (Nat.le_of_ble_eq_true rfl) hlink (fun _ h9 => h9) hv d kk
  · exact g_get (ci := 19) hx hb hts in_X21 hown hG hat rfl 1 (Nat.le_of_ble_eq_true rfl) hlink (fun _ h9 => h9) hv d kk
  · exact g_get (ci := 19) hx hb hts in_X21 hown hG hat rfl 2 (Nat.le_of_ble_eq_true rfl) hlink (fun _ h9 => h9) hv d kk
  · exact g_get (ci := 19) hx hb hts in_X21 hown hG hat rfl 3 (Nat.le_of_ble_eq_true rfl) hlink (fun _ h9 => h9) hv d kk
  · exact g_get (ci := 19) hx hb hts in_X21 hown hG hat rfl 4 (Nat.le_of_ble_eq_true rfl) hlink (fun _ h9 => h9) hv d kk
  · exact g_get (ci := 19) hx hb hts in_X21 hown hG hat rfl 5 (Nat.le_of_ble_eq_true rfl) hlink (fun _ h9 => h9) hv d kk
  · exact g_get (ci := 20) hx hb hts in_X22 hown hG hat rfl 0 (Nat.le_of_ble_eq_true rfl) hlink (fun _ h9 => h9) hv d kk
  · exact g_get (ci := 20) hx hb hts in_X22 hown hG hat rfl 1 (Nat.le_of_ble_eq_true rfl) hlink (fun _ h9 => h9) hv d kk
  · exact g_get (ci := 20) hx hb hts in_X22 hown hG hat rfl 2 (Nat.le_of_ble_eq_true rfl) hlink (fun _ h9 => h9) hv d kk
  · exact g_get (ci := 20) hx hb hts in_X22 hown hG hat rfl 3 (Nat.le_of_ble_eq_true rfl) hlink (fun _ h9 => h9) hv d kk
  · exact g_get (ci := 20) hx hb hts in_X22 hown hG hat rfl 4 (Nat.le_of_ble_eq_true rfl) hlink (fun _ h9 => h9) hv d kk
  · exact g_get (ci := 20) hx hb hts in_X22 hown hG hat rfl 5 (Nat.le_of_ble_eq_true rfl) hlink (fun _ h9 => h9) hv d kk
end G12
/-- a remark, as one of a kind -/
def isRmk (F : gF) (ra : Nat → Nat) (a kd i : Nat) (r : Rm) : Prop := F.1 a = some (oB (14 + kd) [.int (zI (i : Int)), .int (zI (rBy r : Int)), .ref (ra (rOn r)), .int (zI (rP r : Int)), .int (zI (rQ r : Int)), .int (zI (oI (rAns r)))])
/-- a world's object -/
abbrev xwE (w : aW) (rv rk st : Nat) : va_E := oB 2 [.int (zI (wN w : Int)), .int (zI (wM w : Int)), .int (zI (wRun w : Int)), .int (zI (wNeed w : Int)), .int (zI (wMar w : Int)), .int (wSeed w), .ref rv, .ref rk, .ref st]
/-- the component's numbers are a walk -/
def xWk (X : gX) (F : gF) (w : aW) (k : Wk) (h p q : Int) (t cl : Nat) (al be : Option Nat) : Prop := (h = (kHow k : Nat) ∧ kHow k ≤ 3) ∧ t < wN w ∧ (kL k < wN w ∧ kLP k ≤ kLQ k ∧ kLQ k < (wTx w (kL k)).length) ∧ (kHow k ≠ 3 → t = kL k ∧ p = (kP k : Nat) ∧ q = (kQ k : Nat) ∧ kP k = kLP k ∧ kQ k = kLQ k) ∧ (kHow k = 3 → cxR X F cl al be (wTx w (kL k)) (kLP k) (kLQ k))
theorem xWk.mono {X : gX} {F G : gF} {w : aW} {k : Wk} {h p q : Int} {t cl : Nat} {al be : Option Nat} (x : xWk X F w k h p q t cl al be) (hl : gLe F G) : xWk X G w k h p q t cl al be := ⟨x.1, x.2.1, x.2.2.1, x.2.2.2.1, fun g => (x.2.2.2.2 g).mono hl⟩
/-- a walk that came back, or didn't -/
def xBk (w : aW) (k : Wk) (b : Nat) (h p q : Int) : Prop := (wkBack w k b = ((3, 0, 0), k.2) ∧ h = 3) ∨ ∃ s t : Nat, wkBack w k b = ((2, s, t), (b, s, t)) ∧ h = 2 ∧ p = (s : Int) ∧ q = (t : Int) ∧ s ≤ t ∧ t < (wTx w b).length
theorem cmR_f {w : aW} {b f : Nat} (h : wFo w b = some f) : cmR w b = mPlace (wTx w f) (wTx w b) (wRun w) := by funext i; unfold cmR; rw [h]
theorem xBk.wk {X : gX} {F : gF} {w : aW} {k : Wk} {b cl : Nat} {h p q : Int} {al be : Option Nat} (x : xBk w k b h p q) (hb : b < wN w) (hk : kL k < wN w ∧ kLP k ≤ kLQ k ∧ kLQ k < (wTx w (kL k)).length) (hc : cxR X F cl al be (wTx w (kL k)) (kLP k) (kLQ k)) : xWk X F w (wkBack w k b) h p q b cl al be := by
  rcases x with ⟨e, rfl⟩ | ⟨s, t, e, rfl, rfl, rfl, hst, ht⟩
  · rw [e]; exact ⟨⟨rfl, Nat.le_refl 3⟩, hb, hk, fun g => absurd rfl g, fun _ => hc⟩
  · rw [e]; exact ⟨⟨rfl, (by decide : 2 ≤ 3)⟩, hb, ⟨hb, hst, ht⟩, fun _ => ⟨rfl, rfl, rfl, rfl, rfl⟩, fun g => by cases g⟩
theorem xWk_to {X : gX} {F : gF} {w : aW} {k : Wk} {b x y cl o : Nat} {al be : Option Nat} (e : k = ((o, x, y), (b, x, y))) (ho : o ≤ 2) (hb : b < wN w) (hxy : x ≤ y ∧ y < (wTx w b).length) : xWk X F w k (o : Nat) (x : Nat) (y : Nat) b cl al be := by
  subst e; exact ⟨⟨rfl, by show o ≤ 3; omega⟩, hb, ⟨hb, hxy⟩, fun _ => ⟨rfl, rfl, rfl, rfl, rfl⟩, fun g => by have g : o = 3 := g; omega⟩
set_option maxHeartbeats 4000000 in
theorem metX23_isLost {l : Launch} {X : gX} {F : gF} {V : gV} {Z : va_W} {wk sp cx wa rm a9 : Nat} {h9 : Int} (hh : 0 ≤ h9 ∧ h9 ≤ 3) : Met l yX23_isLost (ws_ yX23_isLost cX23_isLost 1 (some FieldType.boolean)) ({ frames := 0, cells := 0, slots := 0, locals := 0 }) (gP X F V ((wk, oB 21 [.ref sp, .ref cx, .ref wa, .ref rm, .ref a9, .int (zI h9)]) :: Z) [.ref wk]) (gQi X (fun u G U ws => u = zI (if h9 = 3 then 1 else 0) ∧ F = G ∧ V = U ∧ ((wk, oB 21 [.ref sp, .ref cx, .ref wa, .ref rm, .ref a9, .int (zI h9)]) :: Z) = ws)) 0 0 (gA X) := by
  refine Met.g (by decide) (Nat.le_of_ble_eq_true rfl) ?_
  intro p e s m below meth c ls hx hb hr hts hown hlocks hml hin hG hl
  have hl : lv_has ls 1 [(0, .ref wk)] := hl
  refine lv_aload_n hx hb dX23_isLost_0 rfl (lv_at hl 0 rfl) ?_
  refine g_get (ci := 21) hx hb hts in_X23 hown hG (hG.at 0 rfl) rfl 5 (Nat.le_of_ble_eq_true rfl) (hts _ q2336) (fun _ h9 => h9) rfl dX23_isLost_1 ?_
  refine lv_iconst (v := zI 3) hx hb dX23_isLost_4 (by decide +kernel) ?_
  refine g_cne (tgt := 12) hx hb dX23_isLost_5 (by decide) (by omega) (fun h1 => ?_) (fun h1 => ?_)
  · refine lv_iconst (v := zI 0) hx hb dX23_isLost_12 (by decide +kernel) ?_
    exact g_zret hx hb hr hlocks rfl hG (⟨by rw [if_neg h1], rfl, rfl, rfl⟩) ⟨Nat.le_of_ble_eq_true rfl, Nat.le_of_ble_eq_true rfl⟩ dX23_isLost_13
  · refine lv_iconst (v := zI 1) hx hb dX23_isLost_8 (by decide +kernel) ?_
    refine lv_goto (tgt := 13) hx hb dX23_isLost_9 (by decide) ?_
    exact g_zret hx hb hr hlocks rfl hG (⟨by rw [if_pos h1], rfl, rfl, rfl⟩) ⟨Nat.le_of_ble_eq_true rfl, Nat.le_of_ble_eq_true rfl⟩ dX23_isLost_13

set_option maxHeartbeats 4000000 in
theorem metX23_keep {l : Launch} {X : gX} {F : gF} {V : gV} {Z : va_W} {wk sp cx wa rm t9 cl : Nat} {h9 p9 q9 : Int} {al be : Option Nat} {k : Wk} {w : aW} {ra la : Nat → Nat} (hR : xRv X F w ra la) (hK : wOK w) (hk : xWk X F w k h9 p9 q9 t9 cl al be) : Met l yX23_keep (ws_ yX23_keep cX23_keep 1 none) ({ frames := 2, cells := 1, slots := 24, locals := 60 }) (gP X F V ((wk, oB 21 [.ref sp, .ref cx, .ref wa, .ref rm, .ref (ra t9), .int (zI h9)]) :: (sp, oB 22 [.int (zI p9), .int (zI q9)]) :: (cx, oB 23 [.ref cl, va_rf al, va_rf be]) :: Z) [.ref wk]) (gQv X (fun G U ws => gLe F G ∧ V = U ∧ ∃ (cl9 : Nat) (al9 be9 : Option Nat), cxR X G cl9 al9 be9 (wTx w (kL k)) (kLP k) (kLQ k) ∧ ((wk, oB 21 [.ref sp, .ref cx, .ref wa, .ref rm, .ref (ra t9), .int (zI h9)]) :: (sp, oB 22 [.int (zI p9), .int (zI q9)]) :: (cx, oB 23 [.ref cl9, va_rf al9, va_rf be9]) :: Z) = ws)) 1 24 (gA X) := by
  refine Met.g (by decide) (Nat.le_of_ble_eq_true rfl) ?_
  intro p e s m below meth c ls hx hb hr hts hown hlocks hml hin hG hl
  have hl : lv_has ls 1 [(0, .ref wk)] := hl
  have hkA := hk
  obtain ⟨⟨hk1, hk2⟩, hk3, hk4, hk5, hk6⟩ := hk
  refine lv_aload_n hx hb dX23_keep_0 rfl (lv_at hl 0 rfl) ?_
  refine g_ci (va_runV (As := []) (rest := []) ⟨hx, hb, hml, hown, hts⟩ (metX23_isLost (h9 := h9) (by omega)) (cwV 0 hts (lw_V q2378 q2379 q2380 q152 q2381) rfl rfl rfl (by decide +kernel) ⟨Nat.le_of_ble_eq_true rfl, Nat.le_of_ble_eq_true rfl⟩) (g_preV hG (g_recv hG (hG.at 0 rfl) (ci := 21) rfl)) rfl rfl hl.1 rfl (lv_room (Nat.le_of_ble_eq_true rfl)) dX23_keep_1 ⟨Nat.le_of_ble_eq_true rfl, Nat.le_of_ble_eq_true rfl⟩) hG (fun r_1 F_2 V_3 ws_ H locs hp hG => ?_)
  obtain ⟨rfl, rfl, rfl, rfl⟩ := hp
  have hG : gW X F V ((wk, oB 21 [.ref sp, .ref cx, .ref wa, .ref rm, .ref (ra t9), .int (zI h9)]) :: (sp, oB 22 [.int (zI p9), .int (zI q9)]) :: (cx, oB 23 [.ref cl, va_rf al, va_rf be]) :: Z) s H locs := hG
  by_cases h3 : h9 = 3
  · refine g_topz (y := 1) (if_pos h3) ?_
    refine g_ne (tgt := 22) hx hb dX23_keep_4 (by decide) (by decide) (fun h1 => ?_) (fun h1 => ?_)
    · exact g_vret hx hb hr hlocks hG (⟨gLe.rfl (V := V), rfl, cl, al, be, hk6 (by omega), rfl⟩) ⟨Nat.le_of_ble_eq_true rfl, Nat.le_of_ble_eq_true rfl⟩ dX23_keep_22
    · exfalso; omega
  · refine g_topz (y := 0) (if_neg h3) ?_
    refine g_ne (tgt := 22) hx hb dX23_keep_4 (by decide) (by decide) (fun h1 => ?_) (fun h1 => ?_)
    · exfalso; omega
    · obtain ⟨e1, e2, e3, e4, e5⟩ := hk5 (by omega)
      subst e1
      have ht24 := (hK.tx hk4.1).1
      have hG : gW X F V ((wk, oB 21 [.ref sp, .ref cx, .ref wa, .ref rm, .ref (ra (kL k)), .int (zI h9)]) :: (sp, oB 22 [.int (zI (kLP k : Int)), .int (zI (kLQ k : Int))]) :: (cx, oB 23 [.ref cl, va_rf al, va_rf be]) :: Z) s H locs := by rw [← e4, ← e5, ← e2, ← e3]; exact hG
      refine lv_aload_n hx hb dX23_keep_7 rfl (lv_at hl 0 rfl) ?_
      refine g_get (ci := 21) hx hb hts in_X23 hown hG (hG.at 0 rfl) rfl 1 (Nat.le_of_ble_eq_true rfl) (hts _ q2332) (fun _ h9 => h9) rfl dX23_keep_8 ?_
      refine lv_aload_n hx hb dX23_keep_11 rfl (lv_at hl 0 rfl) ?_
      refine g_get (ci := 21) hx hb hts in_X23 hown hG (hG.at 0 rfl) rfl 4 (Nat.le_of_ble_eq_true rfl) (hts _ q2335) (fun _ h9 => h9) rfl dX23_keep_12 ?_
      refine lv_aload_n hx hb dX23_keep_15 rfl (lv_at hl 0 rfl) ?_
      refine g_get (ci := 21) hx hb hts in_X23 hown hG (hG.at 0 rfl) rfl 0 (Nat.le_of_ble_eq_true rfl) (hts _ q2330) (fun _ h9 => h9) rfl dX23_keep_16 ?_
      have hG : gW X F V ((sp, oB 22 [.int (zI (kLP k : Int)), .int (zI (kLQ k : Int))]) :: (wk, oB 21 [.ref sp, .ref cx, .ref wa, .ref rm, .ref (ra (kL k)), .int (zI h9)]) :: (cx, oB 23 [.ref cl, va_rf al, va_rf be]) :: Z) s _ _ := hG.pull 1 rfl rfl
      have hG : gW X F V ((cx, oB 23 [.ref cl, va_rf al, va_rf be]) :: (sp, oB 22 [.int (zI (kLP k : Int)), .int (zI (kLQ k : Int))]) :: (wk, oB 21 [.ref sp, .ref cx, .ref wa, .ref rm, .ref (ra (kL k)), .int (zI h9)]) :: Z) s _ _ := hG.pull 2 rfl rfl
      refine g_cv (va_runV (As := [.ref (ra (kL k)), .ref sp]) (rest := []) ⟨hx, hb, hml, hown, hts⟩ (metX25_keep (hR (kL k) hk4.1).1 (hR (kL k) hk4.1).2 hk4.2) (cwV 2 hts (lw_V q2382 q2383 q2384 q154 q2385) rfl rfl rfl (by decide +kernel) ⟨Nat.le_of_ble_eq_true rfl, Nat.le_of_ble_eq_true rfl⟩) (g_preV hG (g_recv hG (hG.at 0 rfl) (ci := 23) rfl)) rfl rfl hl.1 rfl (lv_room (Nat.le_of_ble_eq_true rfl)) dX23_keep_19 ⟨Nat.le_of_ble_eq_true rfl, Nat.le_of_ble_eq_true rfl⟩) hG (fun G1 V_5 ws_ H locs hp hG => ?_)
      obtain ⟨hle_G1, rfl, cl9, al9, be9, hcx9, rfl⟩ := hp
      have hG : gW X G1 V ((cx, oB 23 [.ref cl9, va_rf al9, va_rf be9]) :: (sp, oB 22 [.int (zI (kLP k : Int)), .int (zI (kLQ k : Int))]) :: (wk, oB 21 [.ref sp, .ref cx, .ref wa, .ref rm, .ref (ra (kL k)), .int (zI h9)]) :: Z) s H locs := hG
      have hG : gW X G1 V ((sp, oB 22 [.int (zI (kLP k : Int)), .int (zI (kLQ k : Int))]) :: (cx, oB 23 [.ref cl9, va_rf al9, va_rf be9]) :: (wk, oB 21 [.ref sp, .ref cx, .ref wa, .ref rm, .ref (ra (kL k)), .int (zI h9)]) :: Z) s _ _ := hG.pull 1 rfl rfl
      have hG : gW X G1 V ((wk, oB 21 [.ref sp, .ref cx, .ref wa, .ref rm, .ref (ra (kL k)), .int (zI h9)]) :: (sp, oB 22 [.int (zI (kLP k : Int)), .int (zI (kLQ k : Int))]) :: (cx, oB 23 [.ref cl9, va_rf al9, va_rf be9]) :: Z) s _ _ := hG.pull 2 rfl rfl
      exact g_vret hx hb hr hlocks hG (⟨hle_G1, rfl, cl9, al9, be9, hcx9, by rw [e2, e3, e4, e5]⟩) ⟨Nat.le_of_ble_eq_true rfl, Nat.le_of_ble_eq_true rfl⟩ dX23_keep_22

set_option maxHeartbeats 4000000 in
theorem metX23_comesBack {l : Launch} {X : gX} {F : gF} {V : gV} {Z : va_W} {b wk sp cx wa rm t9 cl : Nat} {h9 p9 q9 : Int} {al be : Option Nat} {k : Wk} {w : aW} {ra la : Nat → Nat} (hR : xRv X F w ra la) (hK : wOK w) (hb9 : b < wN w) (hk4 : kL k < wN w ∧ kLP k ≤ kLQ k ∧ kLQ k < (wTx w (kL k)).length) (hcx : cxR X F cl al be (wTx w (kL k)) (kLP k) (kLQ k)) {rvA rkA stA : Nat} (hw : V 4 = some (wa, xwE w rvA rkA stA)) : Met l yX23_comesBack (ws_ yX23_comesBack cX23_comesBack 3 none) ({ frames := 4, cells := 0, slots := 0, locals := 94 }) (gP X F V ((wk, oB 21 [.ref sp, .ref cx, .ref wa, .ref rm, .ref (ra t9), .int (zI h9)]) :: (sp, oB 22 [.int (zI p9), .int (zI q9)]) :: (cx, oB 23 [.ref cl, va_rf al, va_rf be]) :: Z) [.ref wk, .ref (ra b)]) (gQv X (fun G U ws => F = G ∧ V = U ∧ ∃ h8 p8 q8 : Int, xBk w k b h8 p8 q8 ∧ ((wk, oB 21 [.ref sp, .ref cx, .ref wa, .ref rm, .ref (ra t9), .int (zI h8)]) :: (sp, oB 22 [.int (zI p8), .int (zI q8)]) :: (cx, oB 23 [.ref cl, va_rf al, va_rf be]) :: Z) = ws)) 0 0 (gA X) := by
  refine Met.g (by decide) (Nat.le_of_ble_eq_true rfl) ?_
  intro p e s m below meth c ls hx hb hr hts hown hlocks hml hin hG hl
  have hl : lv_has ls 3 [(0, .ref wk), (1, .ref (ra b))] := hl
  have hb24 := (hK.tx hb9).1
  have ht24 := (hK.tx hk4.1).1
  have hru := hK.ru
  have hpq : kLP k ≤ kLQ k ∧ kLQ k < (wTx w (kL k)).length ∧ (wTx w (kL k)).length ≤ 24 := ⟨hk4.2.1, hk4.2.2, ht24⟩
  have hRb := hR b hb9
  refine lv_aload_n hx hb dX23_comesBack_0 rfl (lv_at hl 0 rfl) ?_
  refine g_get (ci := 21) hx hb hts in_X23 hown hG (hG.at 0 rfl) rfl 1 (Nat.le_of_ble_eq_true rfl) (hts _ q2332) (fun _ h9 => h9) rfl dX23_comesBack_1 ?_
  refine lv_aload_n hx hb dX23_comesBack_4 rfl (lv_at hl 1 rfl) ?_
  refine lv_aload_n hx hb dX23_comesBack_5 rfl (lv_at hl 0 rfl) ?_
  refine g_get (ci := 21) hx hb hts in_X23 hown hG (hG.at 0 rfl) rfl 2 (Nat.le_of_ble_eq_true rfl) (hts _ q2333) (fun _ h9 => h9) rfl dX23_comesBack_6 ?_
  refine g_get (ci := 2) hx hb hts in_X2 hown hG (hG.vo hw) rfl 4 (Nat.le_of_ble_eq_true rfl) (hts _ q344) (fun _ h9 => h9) rfl dX23_comesBack_9 ?_
  have hG : gW X F V ((cx, oB 23 [.ref cl, va_rf al, va_rf be]) :: (wk, oB 21 [.ref sp, .ref cx, .ref wa, .ref rm, .ref (ra t9), .int (zI h9)]) :: (sp, oB 22 [.int (zI p9), .int (zI q9)]) :: Z) s _ _ := hG.pull 2 rfl rfl
  refine g_ci (va_runV (As := [.ref (ra b), .int (zI (wMar w : Int))]) (rest := []) ⟨hx, hb, hml, hown, hts⟩ (metX25_best hRb.1 hRb.2 hcx hpq hru.2.2.2) (cwV 2 hts (lw_V q2445 q2446 q2447 q154 q2448) rfl rfl rfl (by decide +kernel) ⟨Nat.le_of_ble_eq_true rfl, Nat.le_of_ble_eq_true rfl⟩) (g_preV hG (g_recv hG (hG.at 0 rfl) (ci := 23) rfl)) rfl rfl hl.1 rfl (lv_room (Nat.le_of_ble_eq_true rfl)) dX23_comesBack_12 ⟨Nat.le_of_ble_eq_true rfl, Nat.le_of_ble_eq_true rfl⟩) hG (fun r_1 F_2 V_3 ws_ H locs hp hG => ?_)
  obtain ⟨rfl, rfl, rfl, rfl⟩ := hp
  have hG : gW X F V ((cx, oB 23 [.ref cl, va_rf al, va_rf be]) :: (wk, oB 21 [.ref sp, .ref cx, .ref wa, .ref rm, .ref (ra t9), .int (zI h9)]) :: (sp, oB 22 [.int (zI p9), .int (zI q9)]) :: Z) s H locs := hG
  refine lv_istore_n (lv' := [(2, .int (zI (oI (lkX (wTx w (kL k)) (wTx w b) (kLP k) (kLQ k) (wMar w))))), (0, .ref wk), (1, .ref (ra b))]) hx hb dX23_comesBack_15 rfl hl (by decide) rfl (fun ls hl => ?_)
  have hlk0 : True := trivial
  rcases hlk : (lkX (wTx w (kL k)) (wTx w b) (kLP k) (kLQ k) (wMar w)) with _ | v
  · have hl : lv_has ls 3 [(2, .int (zI (-1))), (0, .ref wk), (1, .ref (ra b))] := by rw [hlk] at hl; exact hl
    have hlk : looks w (kL k) (kLP k) (kLQ k) b = none := hlk
    refine lv_aload_n hx hb dX23_comesBack_16 rfl (lv_at hl 1 rfl) ?_
    refine lv_iconst (v := zI 3) hx hb dX23_comesBack_17 (by decide +kernel) ?_
    refine g_put (ci := 21) hx hb hts in_X23 tyX23 tyX23_ok nmX23 hown hG 1 rfl rfl 5 (Nat.le_of_ble_eq_true rfl) (hts _ q2336) (fun _ h9 => h9) rfl (tyX23_ok 5 (Nat.le_of_ble_eq_true rfl)) rfl rfl (Nat.le_of_ble_eq_true rfl) dX23_comesBack_18 (fun H locs (hG : gW X F V ((cx, oB 23 [.ref cl, va_rf al, va_rf be]) :: (wk, oB 21 [.ref sp, .ref cx, .ref wa, .ref rm, .ref (ra t9), .int (zI 3)]) :: (sp, oB 22 [.int (zI p9), .int (zI q9)]) :: Z) s H locs) => ?_)
    refine lv_iload_n hx hb dX23_comesBack_21 rfl (lv_at hl 0 rfl) ?_
    refine lv_iconst (v := zI (-1)) hx hb dX23_comesBack_22 (by decide +kernel) ?_
    refine g_ceq (tgt := 70) hx hb dX23_comesBack_23 (by decide) (by omega) (fun h1 => ?_) (fun h1 => ?_)
    · have hG : gW X F V ((sp, oB 22 [.int (zI p9), .int (zI q9)]) :: (cx, oB 23 [.ref cl, va_rf al, va_rf be]) :: (wk, oB 21 [.ref sp, .ref cx, .ref wa, .ref rm, .ref (ra t9), .int (zI 3)]) :: Z) s _ _ := hG.pull 2 rfl rfl
      have hG : gW X F V ((wk, oB 21 [.ref sp, .ref cx, .ref wa, .ref rm, .ref (ra t9), .int (zI 3)]) :: (sp, oB 22 [.int (zI p9), .int (zI q9)]) :: (cx, oB 23 [.ref cl, va_rf al, va_rf be]) :: Z) s _ _ := hG.pull 2 rfl rfl
      exact g_vret hx hb hr hlocks hG (⟨rfl, rfl, 3, p9, q9, Or.inl ⟨wkBack_n hlk, rfl⟩, rfl⟩) ⟨Nat.le_of_ble_eq_true rfl, Nat.le_of_ble_eq_true rfl⟩ dX23_comesBack_70
    · exfalso; omega
  · have hl : lv_has ls 3 [(2, .int (zI (v : Int))), (0, .ref wk), (1, .ref (ra b))] := by rw [hlk] at hl; exact hl
    have hvN : v < scN (wTx w b) (kLP k) (kLQ k) := by unfold lkX at hlk; split at hlk; (cases hlk); rename_i s9 hs9; split at hlk; (cases hlk; exact bsS_some _ _ hs9); cases hlk
    have hlk : looks w (kL k) (kLP k) (kLQ k) b = some v := hlk
    have hsN : scN (wTx w b) (kLP k) (kLQ k) = (wTx w b).length - (kLQ k - kLP k) := rfl
    have hscl := sc_le (tl := wTx w (kL k)) (tb := wTx w b) (lp := kLP k) (lq := kLQ k) (s := v)
    refine lv_aload_n hx hb dX23_comesBack_16 rfl (lv_at hl 1 rfl) ?_
    refine lv_iconst (v := zI 3) hx hb dX23_comesBack_17 (by decide +kernel) ?_
    refine g_put (ci := 21) hx hb hts in_X23 tyX23 tyX23_ok nmX23 hown hG 1 rfl rfl 5 (Nat.le_of_ble_eq_true rfl) (hts _ q2336) (fun _ h9 => h9) rfl (tyX23_ok 5 (Nat.le_of_ble_eq_true rfl)) rfl rfl (Nat.le_of_ble_eq_true rfl) dX23_comesBack_18 (fun H locs (hG : gW X F V ((cx, oB 23 [.ref cl, va_rf al, va_rf be]) :: (wk, oB 21 [.ref sp, .ref cx, .ref wa, .ref rm, .ref (ra t9), .int (zI 3)]) :: (sp, oB 22 [.int (zI p9), .int (zI q9)]) :: Z) s H locs) => ?_)
    refine lv_iload_n hx hb dX23_comesBack_21 rfl (lv_at hl 0 rfl) ?_
    refine lv_iconst (v := zI (-1)) hx hb dX23_comesBack_22 (by decide +kernel) ?_
    refine g_ceq (tgt := 70) hx hb dX23_comesBack_23 (by decide) (by omega) (fun h1 => ?_) (fun h1 => ?_)
    · exfalso; omega
    · refine lv_aload_n hx hb dX23_comesBack_26 rfl (lv_at hl 1 rfl) ?_
      refine g_get (ci := 21) hx hb hts in_X23 hown hG (hG.at 1 rfl) rfl 1 (Nat.le_of_ble_eq_true rfl) (hts _ q2332) (fun _ h9 => h9) rfl dX23_comesBack_27 ?_
      refine lv_aload_n hx hb dX23_comesBack_30 rfl (lv_at hl 2 rfl) ?_
      refine lv_iload_n hx hb dX23_comesBack_31 rfl (lv_at hl 0 rfl) ?_
      refine g_ci (va_runV (As := [.ref (ra b), .int (zI (v : Int))]) (rest := []) ⟨hx, hb, hml, hown, hts⟩ (metX25_score (s0 := v) hRb.1 hRb.2 hcx hpq (by omega)) (cwV 2 hts (lw_V q2462 q2455 q2456 q154 q2457) rfl rfl rfl (by decide +kernel) ⟨Nat.le_of_ble_eq_true rfl, Nat.le_of_ble_eq_true rfl⟩) (g_preV hG (g_recv hG (hG.at 0 rfl) (ci := 23) rfl)) rfl rfl hl.1 rfl (lv_room (Nat.le_of_ble_eq_true rfl)) dX23_comesBack_32 ⟨Nat.le_of_ble_eq_true rfl, Nat.le_of_ble_eq_true rfl⟩) hG (fun r_4 F_5 V_6 ws_ H locs hp hG => ?_)
      obtain ⟨rfl, rfl, rfl, rfl⟩ := hp
      have hG : gW X F V ((cx, oB 23 [.ref cl, va_rf al, va_rf be]) :: (wk, oB 21 [.ref sp, .ref cx, .ref wa, .ref rm, .ref (ra t9), .int (zI 3)]) :: (sp, oB 22 [.int (zI p9), .int (zI q9)]) :: Z) s H locs := hG
      refine lv_aload_n hx hb dX23_comesBack_35 rfl (lv_at hl 1 rfl) ?_
      refine g_get (ci := 21) hx hb hts in_X23 hown hG (hG.at 1 rfl) rfl 2 (Nat.le_of_ble_eq_true rfl) (hts _ q2333) (fun _ h9 => h9) rfl dX23_comesBack_36 ?_
      refine g_get (ci := 2) hx hb hts in_X2 hown hG (hG.vo hw) rfl 3 (Nat.le_of_ble_eq_true rfl) (hts _ q341) (fun _ h9 => h9) rfl dX23_comesBack_39 ?_
      refine g_clt (tgt := 70) hx hb dX23_comesBack_42 (by decide) (by omega) (fun h2 => ?_) (fun h2 => ?_)
      · have hG : gW X F V ((sp, oB 22 [.int (zI p9), .int (zI q9)]) :: (cx, oB 23 [.ref cl, va_rf al, va_rf be]) :: (wk, oB 21 [.ref sp, .ref cx, .ref wa, .ref rm, .ref (ra t9), .int (zI 3)]) :: Z) s _ _ := hG.pull 2 rfl rfl
        have hG : gW X F V ((wk, oB 21 [.ref sp, .ref cx, .ref wa, .ref rm, .ref (ra t9), .int (zI 3)]) :: (sp, oB 22 [.int (zI p9), .int (zI q9)]) :: (cx, oB 23 [.ref cl, va_rf al, va_rf be]) :: Z) s _ _ := hG.pull 2 rfl rfl
        exact g_vret hx hb hr hlocks hG (⟨rfl, rfl, 3, p9, q9, Or.inl ⟨by rw [wkBack_s hlk, if_neg (by omega)], rfl⟩, rfl⟩) ⟨Nat.le_of_ble_eq_true rfl, Nat.le_of_ble_eq_true rfl⟩ dX23_comesBack_70
      · obtain ⟨gc, hgc1, hgc2, hgc3⟩ := hcx.1
        rw [slT_len ⟨hpq.1, hpq.2.1⟩] at hgc1
        refine lv_aload_n hx hb dX23_comesBack_45 rfl (lv_at hl 1 rfl) ?_
        refine lv_iconst (v := zI 2) hx hb dX23_comesBack_46 (by decide +kernel) ?_
        refine g_put (ci := 21) hx hb hts in_X23 tyX23 tyX23_ok nmX23 hown hG 1 rfl rfl 5 (Nat.le_of_ble_eq_true rfl) (hts _ q2336) (fun _ h9 => h9) rfl (tyX23_ok 5 (Nat.le_of_ble_eq_true rfl)) rfl rfl (Nat.le_of_ble_eq_true rfl) dX23_comesBack_47 (fun H locs (hG : gW X F V ((cx, oB 23 [.ref cl, va_rf al, va_rf be]) :: (wk, oB 21 [.ref sp, .ref cx, .ref wa, .ref rm, .ref (ra t9), .int (zI 2)]) :: (sp, oB 22 [.int (zI p9), .int (zI q9)]) :: Z) s H locs) => ?_)
        refine lv_aload_n hx hb dX23_comesBack_50 rfl (lv_at hl 1 rfl) ?_
        refine g_get (ci := 21) hx hb hts in_X23 hown hG (hG.at 1 rfl) rfl 0 (Nat.le_of_ble_eq_true rfl) (hts _ q2330) (fun _ h9 => h9) rfl dX23_comesBack_51 ?_
        refine lv_iload_n hx hb dX23_comesBack_54 rfl (lv_at hl 0 rfl) ?_
        refine lv_iload_n hx hb dX23_comesBack_55 rfl (lv_at hl 0 rfl) ?_
        refine lv_aload_n hx hb dX23_comesBack_56 rfl (lv_at hl 1 rfl) ?_
        refine g_get (ci := 21) hx hb hts in_X23 hown hG (hG.at 1 rfl) rfl 1 (Nat.le_of_ble_eq_true rfl) (hts _ q2332) (fun _ h9 => h9) rfl dX23_comesBack_57 ?_
        refine g_getN (ci := 23) hx hb hts in_X25 hown hG (hG.at 0 rfl) rfl 0 (Nat.le_of_ble_eq_true rfl) (hG.1.2.1.1 _ qn2320) (fun _ h9 => h9) rfl dX23_comesBack_60 ?_
        refine g_alen hx hb hG 6 rfl (hG.fz hgc1) dX23_comesBack_63 ?_
        refine g_iadd hx hb dX23_comesBack_64 ?_
        refine lv_iconst (v := zI 1) hx hb dX23_comesBack_65 (by decide +kernel) ?_
        refine g_isub hx hb dX23_comesBack_66 ?_
        refine g_topz (y := ((v + (kLQ k - kLP k) : Nat) : Int)) (by omega) ?_
        have hG : gW X F V ((sp, oB 22 [.int (zI p9), .int (zI q9)]) :: (cx, oB 23 [.ref cl, va_rf al, va_rf be]) :: (wk, oB 21 [.ref sp, .ref cx, .ref wa, .ref rm, .ref (ra t9), .int (zI 2)]) :: Z) s _ _ := hG.pull 2 rfl rfl
        refine g_cv (va_runV (As := [.int (zI (v : Int)), .int (zI ((v + (kLQ k - kLP k) : Nat) : Int))]) (rest := []) ⟨hx, hb, hml, hown, hts⟩ (metX24_is) (cwV 2 hts (lw_V q2359 q2360 q2361 q153 q2362) rfl rfl rfl (by decide +kernel) ⟨Nat.le_of_ble_eq_true rfl, Nat.le_of_ble_eq_true rfl⟩) (g_preV hG (g_recv hG (hG.at 0 rfl) (ci := 22) rfl)) rfl rfl hl.1 rfl (lv_room (Nat.le_of_ble_eq_true rfl)) dX23_comesBack_67 ⟨Nat.le_of_ble_eq_true rfl, Nat.le_of_ble_eq_true rfl⟩) hG (fun F_8 V_9 ws_ H locs hp hG => ?_)
        obtain ⟨rfl, rfl, rfl⟩ := hp
        have hG : gW X F V ((sp, oB 22 [.int (zI (v : Int)), .int (zI ((v + (kLQ k - kLP k) : Nat) : Int))]) :: (cx, oB 23 [.ref cl, va_rf al, va_rf be]) :: (wk, oB 21 [.ref sp, .ref cx, .ref wa, .ref rm, .ref (ra t9), .int (zI 2)]) :: Z) s H locs := hG
        have hG : gW X F V ((cx, oB 23 [.ref cl, va_rf al, va_rf be]) :: (sp, oB 22 [.int (zI (v : Int)), .int (zI ((v + (kLQ k - kLP k) : Nat) : Int))]) :: (wk, oB 21 [.ref sp, .ref cx, .ref wa, .ref rm, .ref (ra t9), .int (zI 2)]) :: Z) s _ _ := hG.pull 1 rfl rfl
        have hG : gW X F V ((sp, oB 22 [.int (zI (v : Int)), .int (zI ((v + (kLQ k - kLP k) : Nat) : Int))]) :: (cx, oB 23 [.ref cl, va_rf al, va_rf be]) :: (wk, oB 21 [.ref sp, .ref cx, .ref wa, .ref rm, .ref (ra t9), .int (zI 2)]) :: Z) s _ _ := hG.pull 1 rfl rfl
        have hG : gW X F V ((wk, oB 21 [.ref sp, .ref cx, .ref wa, .ref rm, .ref (ra t9), .int (zI 2)]) :: (sp, oB 22 [.int (zI (v : Int)), .int (zI ((v + (kLQ k - kLP k) : Nat) : Int))]) :: (cx, oB 23 [.ref cl, va_rf al, va_rf be]) :: Z) s _ _ := hG.pull 2 rfl rfl
        exact g_vret hx hb hr hlocks hG (⟨rfl, rfl, 2, v, ((v + (kLQ k - kLP k) : Nat) : Int), Or.inr ⟨v, v + (kLQ k - kLP k), by rw [wkBack_s hlk, if_pos (by omega)], rfl, rfl, rfl, by omega, by omega⟩, rfl⟩) ⟨Nat.le_of_ble_eq_true rfl, Nat.le_of_ble_eq_true rfl⟩ dX23_comesBack_70

