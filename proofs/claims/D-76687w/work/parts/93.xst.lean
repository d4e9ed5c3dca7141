set_option maxRecDepth 100000
/-! THE COMPONENT's STATE -/
/-- a shelf, with what it holds -/
def xSh (X : gX) (F : gF) (V : gV) (ma : Nat → Nat) (i a : Nat) (x : aSh) : Prop := match x with
  | none => V (20 + i) = some (a, oB 3 [.null])
  | some (.inl m) => V (20 + i) = some (a, oB 3 [.ref (ma m)])
  | some (.inr (so, n, f)) => ∃ ro ar : Nat, V (20 + i) = some (a, oB 3 [.ref ro]) ∧ F.1 ro = some (oB (5 + so) [.ref ar]) ∧ V (40 + i) = some (ar, rwE X so n f) ∧ ∀ j, j < n → aTrunc so (f j) = f j
def xKd (X : gX) (F : gF) (kl : Nat) : Prop := ∃ (ka : Nat) (g : Nat → Option Nat), F.1 kl = some (oB 33 [.ref ka, .int (zI 0)]) ∧ F.1 ka = some (aR (gT X 10) 7 g) ∧ ∀ k, k < 7 → g k = some (ga X (k + 128))
def xIm (X : gX) (F : gF) (V : gV) (v : Option aW) (im : Option Nat) : Prop := match v with
  | none => im = none
  | some v => ∃ (wi rvi rki sti : Nat) (rai lai mai : Nat → Nat), im = some wi ∧ xWd X F V 8 v wi rvi rki sti rai lai mai
def xS (X : gX) (F : gF) (V : gV) (x : Nat) (a : aS) (sa rf tr tb kl wa rv rk st : Nat) (sh ra la ma : Nat → Nat) (im : Option Nat) : Prop :=
  V 0 = some (x, oB 0 [.ref sa, .ref rf, .ref tr, .ref kl, .ref wa, va_rf im, .int (zI (aFa a))]) ∧ (∃ f : Nat → Option Nat, F.1 sa = some (aR (gT X 9) 8 f) ∧ ∀ i, i < 8 → f i = some (sh i)) ∧ (∃ g : Nat → Int32, V 1 = some (rf, aI (gT X 0) 8 g) ∧ ∀ j, j < 8 → g j = zI (aRf a j)) ∧ xTr X V tr tb (aTr a) ∧ xKd X F kl ∧ xWd X F V 4 (aWd a) wa rv rk st ra la ma ∧ xIm X F V (aIm a) im ∧ ∀ i, i < 8 → xSh X F V ma i (sh i) (aSv a i)
def xX (X : gX) (F : gF) (V : gV) (x : Nat) (a : aS) : Prop := ∃ (sa rf tr tb kl wa rv rk st : Nat) (sh ra la ma : Nat → Nat) (im : Option Nat), xS X F V x a sa rf tr tb kl wa rv rk st sh ra la ma im
section XS
variable {X : gX} {F G : gF} {V U : gV} {x : Nat} {a : aS} {sa rf tr tb kl wa rv rk st : Nat} {sh ra la ma : Nat → Nat} {im : Option Nat}
theorem xSh.mono {i b : Nat} {y : aSh} (h : xSh X F V ma i b y) (hl : gLe F G) : xSh X G V ma i b y := by
  rcases y with _ | m | ⟨so, n, f⟩
  · exact h
  · exact h
  · obtain ⟨ro, ar, h1, h2, h3, h4⟩ := h
    exact ⟨ro, ar, h1, hl.1 _ _ h2, h3, h4⟩
theorem xSh.cg {i b : Nat} {y : aSh} (h : xSh X F V ma i b y) (e : U (20 + i) = V (20 + i) ∧ U (40 + i) = V (40 + i)) : xSh X F U ma i b y := by
  rcases y with _ | m | ⟨so, n, f⟩
  · exact e.1.trans h
  · exact e.1.trans h
  · obtain ⟨ro, ar, h1, h2, h3, h4⟩ := h
    exact ⟨ro, ar, e.1.trans h1, h2, e.2.trans h3, h4⟩
theorem xSh.keep {ma' : Nat → Nat} {i b M : Nat} {y : aSh} (h : xSh X F V ma i b y) (hy : shOK M y) (e : ∀ m, m < M → ma' m = ma m) : xSh X F V ma' i b y := by
  rcases y with _ | m | ⟨so, n, f⟩
  · exact h
  · show _ = some (b, oB 3 [.ref (ma' m)])
    rw [e m hy]; exact h
  · exact h
theorem xKd.mono {k : Nat} (h : xKd X F k) (hl : gLe F G) : xKd X G k := by
  obtain ⟨ka, g, h1, h2, h3⟩ := h
  exact ⟨ka, g, hl.1 _ _ h1, hl.1 _ _ h2, h3⟩
theorem xIm.mono {v : Option aW} (h : xIm X F V v im) (hl : gLe F G) : xIm X G V v im := by
  cases v with
  | none => exact h
  | some v => obtain ⟨wi, rvi, rki, sti, rai, lai, mai, h1, h2⟩ := h; exact ⟨wi, rvi, rki, sti, rai, lai, mai, h1, h2.mono hl⟩
theorem xIm.cg {v : Option aW} (h : xIm X F V v im) (e : ∀ r, 8 ≤ r → r < 12 → U r = V r) : xIm X F U v im := by
  cases v with
  | none => exact h
  | some v => obtain ⟨wi, rvi, rki, sti, rai, lai, mai, h1, h2⟩ := h; exact ⟨wi, rvi, rki, sti, rai, lai, mai, h1, h2.cg e⟩
theorem xTr.cg {t : List Int} (h : xTr X V tr tb t) (e : U 2 = V 2 ∧ U 3 = V 3) : xTr X U tr tb t := by unfold xTr; rw [e.1, e.2]; exact h
theorem xS.mono (h : xS X F V x a sa rf tr tb kl wa rv rk st sh ra la ma im) (hl : gLe F G) : xS X G V x a sa rf tr tb kl wa rv rk st sh ra la ma im := by
  obtain ⟨h0, ⟨f, h1, h1'⟩, h2, h3, h4, h5, h6, h7⟩ := h
  exact ⟨h0, ⟨f, hl.1 _ _ h1, h1'⟩, h2, h3, h4.mono hl, h5.mono hl, h6.mono hl, fun i hi => (h7 i hi).mono hl⟩
/-- the world becomes another one, in its place -/
theorem xS.setW {w' : aW} {ra' la' ma' : Nat → Nat} (h : xS X F V x a sa rf tr tb kl wa rv rk st sh ra la ma im) (hA : aOK a) (e : vxD V U) (hW : xWd X F U 4 w' wa rv rk st ra' la' ma') (hm : ∀ m, m < wM (aWd a) → ma' m = ma m) : xS X F U x (aSetW a w') sa rf tr tb kl wa rv rk st sh ra' la' ma' im := by
  obtain ⟨h0, h1, ⟨g, h2, h2'⟩, h3, h4, h5, h6, h7⟩ := h
  exact ⟨(e 0 (by decide) (Or.inl (by decide))).trans h0, h1, ⟨g, (e 1 (by decide) (Or.inl (by decide))).trans h2, h2'⟩, h3.cg ⟨e 2 (by decide) (Or.inl (by decide)), e 3 (by decide) (Or.inl (by decide))⟩, h4, hW, h6.cg (fun r r1 r2 => e r (by omega) (Or.inr r1)), fun i hi => xSh.keep (xSh.cg (h7 i hi) ⟨e _ (by omega) (Or.inr (by omega)), e _ (by omega) (Or.inr (by omega))⟩) (hA.2.1 i) hm⟩
theorem xS.eqV (h : xS X F V x a sa rf tr tb kl wa rv rk st sh ra la ma im) (e : vx100 V U) : xS X F U x a sa rf tr tb kl wa rv rk st sh ra la ma im := by
  obtain ⟨h0, h1, ⟨g, h2, h2'⟩, h3, h4, h5, h6, h7⟩ := h
  exact ⟨(e 0 (by decide)).trans h0, h1, ⟨g, (e 1 (by decide)).trans h2, h2'⟩, h3.cg ⟨e 2 (by decide), e 3 (by decide)⟩, h4, h5.cg (fun r _ r2 => e r (by omega)), h6.cg (fun r r1 r2 => e r (by omega)), fun i hi => (h7 i hi).cg ⟨e _ (by omega), e _ (by omega)⟩⟩
theorem aNo_at {j k : Nat} (h : k ≠ j) : aRf (aNo a j) k = aRf a k := va_up_ne _ _ h
theorem xS.no {g : Nat → Int32} {k : Nat} (h : xS X F V x a sa rf tr tb kl wa rv rk st sh ra la ma im) (hg : V 1 = some (rf, aI (gT X 0) 8 g)) (hk : k < 8) : xS X F (va_up V 1 (some (rf, aI (gT X 0) 8 (upd g k (zI (aRf a k + 1)))))) x (aNo a k) sa rf tr tb kl wa rv rk st sh ra la ma im := by
  obtain ⟨h0, h1, ⟨g', h2, h2'⟩, h3, h4, h5, h6, h7⟩ := h
  have e : ∀ r, r ≠ 1 → va_up V 1 (some (rf, aI (gT X 0) 8 (upd g k (zI (aRf a k + 1))))) r = V r := fun r hr => va_up_ne _ _ hr
  have hgg : g' = g := by cases (h2.symm.trans hg); rfl
  subst hgg
  refine ⟨(e 0 (by decide)).trans h0, h1, ⟨_, va_up_self _ _ _, fun j hj => ?_⟩, h3.cg ⟨e 2 (by decide), e 3 (by decide)⟩, h4, h5.cg (fun r r1 _ => e r (by omega)), h6.cg (fun r r1 r2 => e r (by omega)), fun i hi => (h7 i hi).cg ⟨e _ (by omega), e _ (by omega)⟩⟩
  unfold upd
  by_cases hjk : j = k
  · subst hjk
    rw [if_pos rfl]
    show _ = zI (va_up (aRf a) j (aRf a j + 1) j)
    rw [va_up_self]
  · rw [if_neg hjk, h2' j hj, aNo_at hjk]
end XS
set_option maxHeartbeats 4000000 in
theorem metX0_shelf_t {l : Launch} {X : gX} {F : gF} {V : gV} {Z : va_W} {v : Nat} {x sa rf tr tb kl wa rv rk st : Nat} {sh ra la ma : Nat → Nat} {im : Option Nat} {a : aS} (hS : xS X F V x a sa rf tr tb kl wa rv rk st sh ra la ma im) (hA : aOK a) (hv8 : v < 8) : vx_Met l yX0_shelf (wsW_ yX0_shelf cX0_shelf 3 (some (FieldType.object "LineRemarks$Shelf")) [(0, 6, 7, 123)]) ({ frames := 0, cells := 0, slots := 0, locals := 0 }) (gP X F V (Z) [.ref x, .int (zI (v : Int))]) (gQr X (fun u G U ws => u = sh v ∧ F = G ∧ V = U ∧ Z = ws)) (gXc X (fun _ _ _ _ _ => False)) 0 0 (gA X) := by
  refine vx_Met.gH (by decide) (Nat.le_of_ble_eq_true rfl) ?_
  intro p e s m below meth c ls hx hb hr hts hown hlocks hml hin htab hG hl
  have hl : lv_has ls 3 [(0, .ref x), (1, .int (zI (v : Int)))] := hl
  have hSA := hS
  obtain ⟨hx0, ⟨fs9, hx1, hsh⟩, ⟨gr9, hx2, hgr⟩, hx3, hx4, hW, hx6, hx7⟩ := hSA
  have hSA := hS
  have hK := hA.w
  have hNN := hK.n
  have hMM := hK.m
  refine lv_aload_n hx hb dX0_shelf_0 rfl (lv_at hl 0 rfl) ?_
  refine g_get (ci := 0) hx hb hts in_X0 hown hG (hG.vo hx0) rfl 0 (Nat.le_of_ble_eq_true rfl) (hts _ q384) (fun _ h9 => h9) rfl dX0_shelf_1 ?_
  refine lv_iload_n hx hb dX0_shelf_4 rfl (lv_at hl 1 rfl) ?_
  refine g_aald hx hb hG 9 rfl rfl (hG.fz hx1) v ⟨rfl, by omega, by omega⟩ (v := .ref (sh v)) (congrArg va_rf (hsh v hv8)) dX0_shelf_5 ?_
  refine vx_ret ?_
  exact g_rret hx hb hr (Or.inl ⟨_, rfl⟩) hlocks hG (⟨rfl, rfl, rfl, rfl⟩) ⟨Nat.le_of_ble_eq_true rfl, Nat.le_of_ble_eq_true rfl⟩ dX0_shelf_6

set_option maxHeartbeats 4000000 in
theorem metX0_shelf_f {l : Launch} {X : gX} {F : gF} {V : gV} {Z : va_W} {v : Int} {x sa rf tr tb kl wa rv rk st : Nat} {sh ra la ma : Nat → Nat} {im : Option Nat} {a : aS} (hS : xS X F V x a sa rf tr tb kl wa rv rk st sh ra la ma im) (hA : aOK a) (hst : l.stackTraces = false) (hv8 : (v < 0 ∨ 8 ≤ v) ∧ (-2147483648 ≤ v ∧ v < 2147483648)) : vx_Met l yX0_shelf (wsW_ yX0_shelf cX0_shelf 3 (some (FieldType.object "LineRemarks$Shelf")) [(0, 6, 7, 123)]) ({ frames := 8, cells := 4, slots := 229, locals := 10256 }) (gP X F V (Z) [.ref x, .int (zI v)]) (gQr X (fun _ _ _ _ => False)) (gXc X (fun E q G U ws => E = "LineRemarks$Refused" ∧ gLe F G ∧ isRef G q 1 ∧ V = U ∧ Z = ws)) 4 229 (gA X) := by
  refine vx_Met.gH (by decide) (Nat.le_of_ble_eq_true rfl) ?_
  intro p e s m below meth c ls hx hb hr hts hown hlocks hml hin htab hG hl
  have hl : lv_has ls 3 [(0, .ref x), (1, .int (zI v))] := hl
  have hSA := hS
  obtain ⟨hx0, ⟨fs9, hx1, hsh⟩, ⟨gr9, hx2, hgr⟩, hx3, hx4, hW, hx6, hx7⟩ := hSA
  have hSA := hS
  have hK := hA.w
  have hNN := hK.n
  have hMM := hK.m
  refine lv_aload_n hx hb dX0_shelf_0 rfl (lv_at hl 0 rfl) ?_
  refine g_get (ci := 0) hx hb hts in_X0 hown hG (hG.vo hx0) rfl 0 (Nat.le_of_ble_eq_true rfl) (hts _ q384) (fun _ h9 => h9) rfl dX0_shelf_1 ?_
  refine lv_iload_n hx hb dX0_shelf_4 rfl (lv_at hl 1 rfl) ?_
  refine g_aaldZ hx hb hG 9 rfl (hG.fz hx1) (vpout (by omega)) dX0_shelf_5 (g_aioobe hx hst hts hG (hml.trans hl.1.symm).symm (by omega) (Nat.le_of_ble_eq_true rfl) (Nat.le_of_ble_eq_true rfl) ⟨Nat.le_of_ble_eq_true rfl, Nat.le_of_ble_eq_true rfl⟩ hlocks (fun H q9 ce9 hG hce => ?_))
  refine g_catch (name := "java/lang/ArrayIndexOutOfBoundsException") hown htab [] ⟨0, 6, 7, 123⟩ [] rfl (fun z9 hz9 => absurd hz9 List.not_mem_nil) (by decide) (by decide) (hts _ q415) (hG.1.2.1.1 _ qn472) hce ?_
  refine lv_astore_n (lv' := [(2, .ref q9), (0, .ref x), (1, .int (zI v))]) hx hb dX0_shelf_7 rfl hl (by decide) rfl (fun ls hl => ?_)
  refine g_new (ci := 4) hx hb hts in_X5 tyX5 tyX5_ok hown (hts _ q410) (hts _ q497) (hts _ q109) hG rfl (fs := [.null, .null, .null, .null, .null, .int (zI 0), .int (zI 0)]) rfl ⟨Nat.le_of_ble_eq_true rfl, Nat.le_of_ble_eq_true rfl⟩ dX0_shelf_8 (fun q9 H (hG : gW X F V ((q9, oB 4 [.null, .null, .null, .null, .null, .int (zI 0), .int (zI 0)]) :: Z) s H _) => ?_)
  refine lv_dup hx hb dX0_shelf_11 rfl ?_
  refine lv_iconst (v := zI (-1)) hx hb dX0_shelf_12 (by decide +kernel) ?_
  refine g_cv (va_runI (As := [.int (zI (-1))]) (rest := [.ref q9]) ⟨hx, hb, hml, hown, hts⟩ (metX5_init) (cwI 1 hts (lw_meth q507) rfl rfl rfl (hts _ q109) (hts _ q505) (hts _ q506) rfl (by decide +kernel) ⟨Nat.le_of_ble_eq_true rfl, Nat.le_of_ble_eq_true rfl⟩) (g_preS hG) rfl rfl hl.1 rfl (lv_room (Nat.le_of_ble_eq_true rfl)) dX0_shelf_13 ⟨Nat.le_of_ble_eq_true rfl, Nat.le_of_ble_eq_true rfl⟩) hG (fun F_2 V_3 ws_ H locs hp hG => ?_)
  obtain ⟨rfl, rfl, rfl⟩ := hp
  have hG : gW X F V ((q9, oB 4 [.null, .null, .null, .null, .null, .int (zI 0), .int (zI (-1))]) :: Z) s H locs := hG
  obtain ⟨G9, hle_G9, hq9, hG⟩ := hG.freeze
  have hG : gW X G9 V (Z) s _ _ := hG
  refine vx_athrow hx hb dX0_shelf_16 ?_
  have hq9 : isRef G9 q9 1 := hq9
  obtain ⟨ce9, hce⟩ := ex_cell hG hq9 (k := (RX5, TX5, 7)) rfl
  exact g_out hown hlocks (by rw [htab]; exact (List.forall_mem_cons.mpr ⟨Or.inl (by decide), (fun z9 hz9 => absurd hz9 List.not_mem_nil)⟩)) hG hce (⟨rfl, hle_G9, hq9, rfl, rfl⟩) ⟨Nat.le_of_ble_eq_true rfl, Nat.le_of_ble_eq_true rfl⟩

set_option maxHeartbeats 4000000 in
theorem metX0_revision_t {l : Launch} {X : gX} {F : gF} {V : gV} {Z : va_W} {r : Nat} {x sa rf tr tb kl wa rv rk st : Nat} {sh ra la ma : Nat → Nat} {im : Option Nat} {a : aS} (hS : xS X F V x a sa rf tr tb kl wa rv rk st sh ra la ma im) (hA : aOK a) (hr9 : r < wN (aWd a)) : Met l yX0_revision (ws_ yX0_revision cX0_revision 2 (some (FieldType.object "LineRemarks$Revision"))) ({ frames := 1, cells := 0, slots := 0, locals := 21 }) (gP X F V (Z) [.ref x, .int (zI (r : Int))]) (gQr X (fun u G U ws => u = ra r ∧ F = G ∧ V = U ∧ Z = ws)) 0 0 (gA X) := by
  refine Met.g (by decide) (Nat.le_of_ble_eq_true rfl) ?_
  intro p e s m below meth c ls hx hb hr hts hown hlocks hml hin hG hl
  have hl : lv_has ls 2 [(0, .ref x), (1, .int (zI (r : Int)))] := hl
  have hSA := hS
  obtain ⟨hx0, ⟨fs9, hx1, hsh⟩, ⟨gr9, hx2, hgr⟩, hx3, hx4, hW, hx6, hx7⟩ := hSA
  have hSA := hS
  have hK := hA.w
  have hNN := hK.n
  have hMM := hK.m
  obtain ⟨hw0, ⟨fR, hw1, hwR⟩, ⟨fM, hw2, hwM⟩, ⟨fS, hw3, hwS⟩, hR, hMk⟩ := id hW
  have hw0 : V 4 = some (wa, oB 2 [.int (zI (wN (aWd a) : Int)), .int (zI (wM (aWd a) : Int)), .int (zI (wRun (aWd a) : Int)), .int (zI (wNeed (aWd a) : Int)), .int (zI (wMar (aWd a) : Int)), .int (wSeed (aWd a)), .ref rv, .ref rk, .ref st]) := hw0
  have hw1 : V 5 = some (rv, aR (gT X 7) 16 fR) := hw1
  have hw2 : V 6 = some (rk, aR (gT X 8) 16 fM) := hw2
  have hw3 : V 7 = some (st, aI (gT X 5) 16 fS) := hw3
  refine lv_aload_n hx hb dX0_revision_0 rfl (lv_at hl 0 rfl) ?_
  refine g_get (ci := 0) hx hb hts in_X0 hown hG (hG.vo hx0) rfl 4 (Nat.le_of_ble_eq_true rfl) (hts _ q388) (fun _ h9 => h9) rfl dX0_revision_1 ?_
  refine lv_iload_n hx hb dX0_revision_4 rfl (lv_at hl 1 rfl) ?_
  refine g_ci (va_runV (As := [.int (zI (r : Int))]) (rest := []) ⟨hx, hb, hml, hown, hts⟩ (metX2_isRevision hW hK (by omega)) (cwV 1 hts (lw_V q741 q742 q743 q100 q744) rfl rfl rfl (by decide +kernel) ⟨Nat.le_of_ble_eq_true rfl, Nat.le_of_ble_eq_true rfl⟩) (g_preV hG (g_recv hG (hG.vo hw0) (ci := 2) rfl)) rfl rfl hl.1 rfl (lv_room (Nat.le_of_ble_eq_true rfl)) dX0_revision_5 ⟨Nat.le_of_ble_eq_true rfl, Nat.le_of_ble_eq_true rfl⟩) hG (fun r_1 F_2 V_3 ws_ H locs hp hG => ?_)
  obtain ⟨rfl, rfl, rfl, rfl⟩ := hp
  have hG : gW X F V (Z) s H locs := hG
  refine g_topz (y := 1) (by rw [decide_eq_true (by omega)]; rfl) ?_
  refine lv_iconst (v := zI (-1)) hx hb dX0_revision_8 (by decide +kernel) ?_
  refine g_cv (va_runS (As := [.int (zI 1), .int (zI (-1))]) (rest := []) ⟨hx, hb, hml, hown, hts⟩ (metX0_need_t (b := 1) (by decide)) (va_cwS 2 hts (lw_S q520 q521 q87 q522) rfl rfl rfl (by decide +kernel) ⟨Nat.le_of_ble_eq_true rfl, Nat.le_of_ble_eq_true rfl⟩) (g_preS hG) rfl rfl hl.1 rfl (lv_room (Nat.le_of_ble_eq_true rfl)) dX0_revision_9 ⟨Nat.le_of_ble_eq_true rfl, Nat.le_of_ble_eq_true rfl⟩) hG (fun F_5 V_6 ws_ H locs hp hG => ?_)
  obtain ⟨rfl, rfl, rfl⟩ := hp
  have hG : gW X F V (Z) s H locs := hG
  refine lv_aload_n hx hb dX0_revision_12 rfl (lv_at hl 0 rfl) ?_
  refine g_get (ci := 0) hx hb hts in_X0 hown hG (hG.vo hx0) rfl 4 (Nat.le_of_ble_eq_true rfl) (hts _ q388) (fun _ h9 => h9) rfl dX0_revision_13 ?_
  refine g_get (ci := 2) hx hb hts in_X2 hown hG (hG.vo hw0) rfl 6 (Nat.le_of_ble_eq_true rfl) (hts _ q349) (fun _ h9 => h9) rfl dX0_revision_16 ?_
  refine lv_iload_n hx hb dX0_revision_19 rfl (lv_at hl 1 rfl) ?_
  refine g_aald hx hb hG 7 rfl rfl (hG.vo hw1) r ⟨rfl, by omega, by omega⟩ (v := .ref (ra r)) (congrArg va_rf (hwR r hr9)) dX0_revision_20 ?_
  exact g_rret hx hb hr (Or.inl ⟨_, rfl⟩) hlocks hG (⟨rfl, rfl, rfl, rfl⟩) ⟨Nat.le_of_ble_eq_true rfl, Nat.le_of_ble_eq_true rfl⟩ dX0_revision_21

set_option maxHeartbeats 4000000 in
theorem metX0_revision_f {l : Launch} {X : gX} {F : gF} {V : gV} {Z : va_W} {r : Int} {x sa rf tr tb kl wa rv rk st : Nat} {sh ra la ma : Nat → Nat} {im : Option Nat} {a : aS} (hS : xS X F V x a sa rf tr tb kl wa rv rk st sh ra la ma im) (hA : aOK a) (hr9 : (r < 0 ∨ (wN (aWd a) : Int) ≤ r) ∧ (-2147483648 ≤ r ∧ r < 2147483648)) : vx_Met l yX0_revision (ws_ yX0_revision cX0_revision 2 (some (FieldType.object "LineRemarks$Revision"))) ({ frames := 5, cells := 1, slots := 7, locals := 110 }) (gP X F V (Z) [.ref x, .int (zI r)]) (gQr X (fun _ _ _ _ => False)) (gXc X (fun E q G U ws => E = "LineRemarks$Refused" ∧ gLe F G ∧ isRef G q 1 ∧ V = U ∧ Z = ws)) 1 7 (gA X) := by
  refine vx_Met.g (by decide) (Nat.le_of_ble_eq_true rfl) ?_
  intro p e s m below meth c ls hx hb hr hts hown hlocks hml hin hnt hG hl
  have hl : lv_has ls 2 [(0, .ref x), (1, .int (zI r))] := hl
  have hSA := hS
  obtain ⟨hx0, ⟨fs9, hx1, hsh⟩, ⟨gr9, hx2, hgr⟩, hx3, hx4, hW, hx6, hx7⟩ := hSA
  have hSA := hS
  have hK := hA.w
  have hNN := hK.n
  have hMM := hK.m
  obtain ⟨hw0, ⟨fR, hw1, hwR⟩, ⟨fM, hw2, hwM⟩, ⟨fS, hw3, hwS⟩, hR, hMk⟩ := id hW
  have hw0 : V 4 = some (wa, oB 2 [.int (zI (wN (aWd a) : Int)), .int (zI (wM (aWd a) : Int)), .int (zI (wRun (aWd a) : Int)), .int (zI (wNeed (aWd a) : Int)), .int (zI (wMar (aWd a) : Int)), .int (wSeed (aWd a)), .ref rv, .ref rk, .ref st]) := hw0
  have hw1 : V 5 = some (rv, aR (gT X 7) 16 fR) := hw1
  have hw2 : V 6 = some (rk, aR (gT X 8) 16 fM) := hw2
  have hw3 : V 7 = some (st, aI (gT X 5) 16 fS) := hw3
  refine lv_aload_n hx hb dX0_revision_0 rfl (lv_at hl 0 rfl) ?_
  refine g_get (ci := 0) hx hb hts in_X0 hown hG (hG.vo hx0) rfl 4 (Nat.le_of_ble_eq_true rfl) (hts _ q388) (fun _ h9 => h9) rfl dX0_revision_1 ?_
  refine lv_iload_n hx hb dX0_revision_4 rfl (lv_at hl 1 rfl) ?_
  refine g_ci (va_runV (As := [.int (zI r)]) (rest := []) ⟨hx, hb, hml, hown, hts⟩ (metX2_isRevision hW hK (by omega)) (cwV 1 hts (lw_V q741 q742 q743 q100 q744) rfl rfl rfl (by decide +kernel) ⟨Nat.le_of_ble_eq_true rfl, Nat.le_of_ble_eq_true rfl⟩) (g_preV hG (g_recv hG (hG.vo hw0) (ci := 2) rfl)) rfl rfl hl.1 rfl (lv_room (Nat.le_of_ble_eq_true rfl)) dX0_revision_5 ⟨Nat.le_of_ble_eq_true rfl, Nat.le_of_ble_eq_true rfl⟩) hG (fun r_1 F_2 V_3 ws_ H locs hp hG => ?_)
  obtain ⟨rfl, rfl, rfl, rfl⟩ := hp
  have hG : gW X F V (Z) s H locs := hG
  refine g_topz (y := 0) (by rw [decide_eq_false (by omega)]; rfl) ?_
  refine lv_iconst (v := zI (-1)) hx hb dX0_revision_8 (by decide +kernel) ?_
  refine g_xv (vx_runS (As := [.int (zI 0), .int (zI (-1))]) (rest := []) ⟨hx, hb, hml, hown, hts⟩ (metX0_need_f (k := 1)) (va_cwS 2 hts (lw_S q520 q521 q87 q522) rfl rfl rfl (by decide +kernel) ⟨Nat.le_of_ble_eq_true rfl, Nat.le_of_ble_eq_true rfl⟩) (g_preS hG) rfl rfl hl.1 rfl (lv_room (Nat.le_of_ble_eq_true rfl)) dX0_revision_9 ⟨Nat.le_of_ble_eq_true rfl, Nat.le_of_ble_eq_true rfl⟩) hG (fun E9 ce9 q9 Fx_7 Vx_8 ws_ H locs hpx hG hce => ?_) (fun F_5 V_6 ws_ H locs hp hG => ?_)
  · obtain ⟨rfl, hle_Fx_7, hq9, rfl, rfl⟩ := hpx
    have hG : gW X Fx_7 V (Z) s H locs := hG
    exact g_out hown hlocks (fun z9 hz9 => (hnt z9 hz9).elim) hG hce (⟨rfl, hle_Fx_7, hq9, rfl, rfl⟩) ⟨Nat.le_of_ble_eq_true rfl, Nat.le_of_ble_eq_true rfl⟩
  exact hp.elim

set_option maxHeartbeats 4000000 in
theorem metX0_told_t {l : Launch} {X : gX} {F : gF} {V : gV} {Z : va_W} {r : Nat} {x sa rf tr tb kl wa rv rk st : Nat} {sh ra la ma : Nat → Nat} {im : Option Nat} {a : aS} (hS : xS X F V x a sa rf tr tb kl wa rv rk st sh ra la ma im) (hA : aOK a) (hr9 : r < wM (aWd a)) : Met l yX0_told (ws_ yX0_told cX0_told 2 (some (FieldType.object "LineRemarks$Remark"))) ({ frames := 1, cells := 0, slots := 0, locals := 21 }) (gP X F V (Z) [.ref x, .int (zI (r : Int))]) (gQr X (fun u G U ws => u = ma r ∧ F = G ∧ V = U ∧ Z = ws)) 0 0 (gA X) := by
  refine Met.g (by decide) (Nat.le_of_ble_eq_true rfl) ?_
  intro p e s m below meth c ls hx hb hr hts hown hlocks hml hin hG hl
  have hl : lv_has ls 2 [(0, .ref x), (1, .int (zI (r : Int)))] := hl
  have hSA := hS
  obtain ⟨hx0, ⟨fs9, hx1, hsh⟩, ⟨gr9, hx2, hgr⟩, hx3, hx4, hW, hx6, hx7⟩ := hSA
  have hSA := hS
  have hK := hA.w
  have hNN := hK.n
  have hMM := hK.m
  obtain ⟨hw0, ⟨fR, hw1, hwR⟩, ⟨fM, hw2, hwM⟩, ⟨fS, hw3, hwS⟩, hR, hMk⟩ := id hW
  have hw0 : V 4 = some (wa, oB 2 [.int (zI (wN (aWd a) : Int)), .int (zI (wM (aWd a) : Int)), .int (zI (wRun (aWd a) : Int)), .int (zI (wNeed (aWd a) : Int)), .int (zI (wMar (aWd a) : Int)), .int (wSeed (aWd a)), .ref rv, .ref rk, .ref st]) := hw0
  have hw1 : V 5 = some (rv, aR (gT X 7) 16 fR) := hw1
  have hw2 : V 6 = some (rk, aR (gT X 8) 16 fM) := hw2
  have hw3 : V 7 = some (st, aI (gT X 5) 16 fS) := hw3
  refine lv_aload_n hx hb dX0_told_0 rfl (lv_at hl 0 rfl) ?_
  refine g_get (ci := 0) hx hb hts in_X0 hown hG (hG.vo hx0) rfl 4 (Nat.le_of_ble_eq_true rfl) (hts _ q388) (fun _ h9 => h9) rfl dX0_told_1 ?_
  refine lv_iload_n hx hb dX0_told_4 rfl (lv_at hl 1 rfl) ?_
  refine g_ci (va_runV (As := [.int (zI (r : Int))]) (rest := []) ⟨hx, hb, hml, hown, hts⟩ (metX2_isRemark hW hK (by omega)) (cwV 1 hts (lw_V q704 q705 q706 q100 q707) rfl rfl rfl (by decide +kernel) ⟨Nat.le_of_ble_eq_true rfl, Nat.le_of_ble_eq_true rfl⟩) (g_preV hG (g_recv hG (hG.vo hw0) (ci := 2) rfl)) rfl rfl hl.1 rfl (lv_room (Nat.le_of_ble_eq_true rfl)) dX0_told_5 ⟨Nat.le_of_ble_eq_true rfl, Nat.le_of_ble_eq_true rfl⟩) hG (fun r_1 F_2 V_3 ws_ H locs hp hG => ?_)
  obtain ⟨rfl, rfl, rfl, rfl⟩ := hp
  have hG : gW X F V (Z) s H locs := hG
  refine g_topz (y := 1) (by rw [decide_eq_true (by omega)]; rfl) ?_
  refine lv_iconst (v := zI (-1)) hx hb dX0_told_8 (by decide +kernel) ?_
  refine g_cv (va_runS (As := [.int (zI 1), .int (zI (-1))]) (rest := []) ⟨hx, hb, hml, hown, hts⟩ (metX0_need_t (b := 1) (by decide)) (va_cwS 2 hts (lw_S q520 q521 q87 q522) rfl rfl rfl (by decide +kernel) ⟨Nat.le_of_ble_eq_true rfl, Nat.le_of_ble_eq_true rfl⟩) (g_preS hG) rfl rfl hl.1 rfl (lv_room (Nat.le_of_ble_eq_true rfl)) dX0_told_9 ⟨Nat.le_of_ble_eq_true rfl, Nat.le_of_ble_eq_true rfl⟩) hG (fun F_5 V_6 ws_ H locs hp hG => ?_)
  obtain ⟨rfl, rfl, rfl⟩ := hp
  have hG : gW X F V (Z) s H locs := hG
  refine lv_aload_n hx hb dX0_told_12 rfl (lv_at hl 0 rfl) ?_
  refine g_get (ci := 0) hx hb hts in_X0 hown hG (hG.vo hx0) rfl 4 (Nat.le_of_ble_eq_true rfl) (hts _ q388) (fun _ h9 => h9) rfl dX0_told_13 ?_
  refine g_get (ci := 2) hx hb hts in_X2 hown hG (hG.vo hw0) rfl 7 (Nat.le_of_ble_eq_true rfl) (hts _ q351) (fun _ h9 => h9) rfl dX0_told_16 ?_
  refine lv_iload_n hx hb dX0_told_19 rfl (lv_at hl 1 rfl) ?_
  refine g_aald hx hb hG 8 rfl rfl (hG.vo hw2) r ⟨rfl, by omega, by omega⟩ (v := .ref (ma r)) (congrArg va_rf (hwM r hr9)) dX0_told_20 ?_
  exact g_rret hx hb hr (Or.inl ⟨_, rfl⟩) hlocks hG (⟨rfl, rfl, rfl, rfl⟩) ⟨Nat.le_of_ble_eq_true rfl, Nat.le_of_ble_eq_true rfl⟩ dX0_told_21

set_option maxHeartbeats 4000000 in
theorem metX0_told_f {l : Launch} {X : gX} {F : gF} {V : gV} {Z : va_W} {r : Int} {x sa rf tr tb kl wa rv rk st : Nat} {sh ra la ma : Nat → Nat} {im : Option Nat} {a : aS} (hS : xS X F V x a sa rf tr tb kl wa rv rk st sh ra la ma im) (hA : aOK a) (hr9 : (r < 0 ∨ (wM (aWd a) : Int) ≤ r) ∧ (-2147483648 ≤ r ∧ r < 2147483648)) : vx_Met l yX0_told (ws_ yX0_told cX0_told 2 (some (FieldType.object "LineRemarks$Remark"))) ({ frames := 5, cells := 1, slots := 7, locals := 110 }) (gP X F V (Z) [.ref x, .int (zI r)]) (gQr X (fun _ _ _ _ => False)) (gXc X (fun E q G U ws => E = "LineRemarks$Refused" ∧ gLe F G ∧ isRef G q 1 ∧ V = U ∧ Z = ws)) 1 7 (gA X) := by
  refine vx_Met.g (by decide) (Nat.le_of_ble_eq_true rfl) ?_
  intro p e s m below meth c ls hx hb hr hts hown hlocks hml hin hnt hG hl
  have hl : lv_has ls 2 [(0, .ref x), (1, .int (zI r))] := hl
  have hSA := hS
  obtain ⟨hx0, ⟨fs9, hx1, hsh⟩, ⟨gr9, hx2, hgr⟩, hx3, hx4, hW, hx6, hx7⟩ := hSA
  have hSA := hS
  have hK := hA.w
  have hNN := hK.n
  have hMM := hK.m
  obtain ⟨hw0, ⟨fR, hw1, hwR⟩, ⟨fM, hw2, hwM⟩, ⟨fS, hw3, hwS⟩, hR, hMk⟩ := id hW
  have hw0 : V 4 = some (wa, oB 2 [.int (zI (wN (aWd a) : Int)), .int (zI (wM (aWd a) : Int)), .int (zI (wRun (aWd a) : Int)), .int (zI (wNeed (aWd a) : Int)), .int (zI (wMar (aWd a) : Int)), .int (wSeed (aWd a)), .ref rv, .ref rk, .ref st]) := hw0
  have hw1 : V 5 = some (rv, aR (gT X 7) 16 fR) := hw1
  have hw2 : V 6 = some (rk, aR (gT X 8) 16 fM) := hw2
  have hw3 : V 7 = some (st, aI (gT X 5) 16 fS) := hw3
  refine lv_aload_n hx hb dX0_told_0 rfl (lv_at hl 0 rfl) ?_
  refine g_get (ci := 0) hx hb hts in_X0 hown hG (hG.vo hx0) rfl 4 (Nat.le_of_ble_eq_true rfl) (hts _ q388) (fun _ h9 => h9) rfl dX0_told_1 ?_
  refine lv_iload_n hx hb dX0_told_4 rfl (lv_at hl 1 rfl) ?_
  refine g_ci (va_runV (As := [.int (zI r)]) (rest := []) ⟨hx, hb, hml, hown, hts⟩ (metX2_isRemark hW hK (by omega)) (cwV 1 hts (lw_V q704 q705 q706 q100 q707) rfl rfl rfl (by decide +kernel) ⟨Nat.le_of_ble_eq_true rfl, Nat.le_of_ble_eq_true rfl⟩) (g_preV hG (g_recv hG (hG.vo hw0) (ci := 2) rfl)) rfl rfl hl.1 rfl (lv_room (Nat.le_of_ble_eq_true rfl)) dX0_told_5 ⟨Nat.le_of_ble_eq_true rfl, Nat.le_of_ble_eq_true rfl⟩) hG (fun r_1 F_2 V_3 ws_ H locs hp hG => ?_)
  obtain ⟨rfl, rfl, rfl, rfl⟩ := hp
  have hG : gW X F V (Z) s H locs := hG
  refine g_topz (y := 0) (by rw [decide_eq_false (by omega)]; rfl) ?_
  refine lv_iconst (v := zI (-1)) hx hb dX0_told_8 (by decide +kernel) ?_
  refine g_xv (vx_runS (As := [.int (zI 0), .int (zI (-1))]) (rest := []) ⟨hx, hb, hml, hown, hts⟩ (metX0_need_f (k := 1)) (va_cwS 2 hts (lw_S q520 q521 q87 q522) rfl rfl rfl (by decide +kernel) ⟨Nat.le_of_ble_eq_true rfl, Nat.le_of_ble_eq_true rfl⟩) (g_preS hG) rfl rfl hl.1 rfl (lv_room (Nat.le_of_ble_eq_true rfl)) dX0_told_9 ⟨Nat.le_of_ble_eq_true rfl, Nat.le_of_ble_eq_true rfl⟩) hG (fun E9 ce9 q9 Fx_7 Vx_8 ws_ H locs hpx hG hce => ?_) (fun F_5 V_6 ws_ H locs hp hG => ?_)
  · obtain ⟨rfl, hle_Fx_7, hq9, rfl, rfl⟩ := hpx
    have hG : gW X Fx_7 V (Z) s H locs := hG
    exact g_out hown hlocks (fun z9 hz9 => (hnt z9 hz9).elim) hG hce (⟨rfl, hle_Fx_7, hq9, rfl, rfl⟩) ⟨Nat.le_of_ble_eq_true rfl, Nat.le_of_ble_eq_true rfl⟩
  exact hp.elim

set_option maxHeartbeats 4000000 in
theorem metX0_refused {l : Launch} {X : gX} {F : gF} {V : gV} {Z : va_W} {q k : Nat} {x sa rf tr tb kl wa rv rk st : Nat} {sh ra la ma : Nat → Nat} {im : Option Nat} {a : aS} (hS : xS X F V x a sa rf tr tb kl wa rv rk st sh ra la ma im) (hA : aOK a) (hq : isRef F q k) (hk8 : k < 8) : Met l yX0_refused (ws_ yX0_refused cX0_refused 2 (some FieldType.int)) ({ frames := 0, cells := 0, slots := 0, locals := 0 }) (gP X F V (Z) [.ref x, .ref q]) (gQi X (fun u G U ws => u = zI (-(k : Int)) ∧ F = G ∧ xS X F U x (aNo a k) sa rf tr tb kl wa rv rk st sh ra la ma im ∧ Z = ws)) 0 0 (gA X) := by
  refine Met.g (by decide) (Nat.le_of_ble_eq_true rfl) ?_
  intro p e s m below meth c ls hx hb hr hts hown hlocks hml hin hG hl
  have hl : lv_has ls 2 [(0, .ref x), (1, .ref q)] := hl
  have hSA := hS
  obtain ⟨hx0, ⟨fs9, hx1, hsh⟩, ⟨gr9, hx2, hgr⟩, hx3, hx4, hW, hx6, hx7⟩ := hSA
  have hSA := hS
  have hK := hA.w
  have hx2o := hx2
  have hNN := hK.n
  have hMM := hK.m
  refine lv_aload_n hx hb dX0_refused_0 rfl (lv_at hl 0 rfl) ?_
  refine g_get (ci := 0) hx hb hts in_X0 hown hG (hG.vo hx0) rfl 1 (Nat.le_of_ble_eq_true rfl) (hts _ q385) (fun _ h9 => h9) rfl dX0_refused_1 ?_
  refine lv_aload_n hx hb dX0_refused_4 rfl (lv_at hl 1 rfl) ?_
  refine g_get (ci := 4) hx hb hts in_X5 hown hG (hG.fz (show F.1 q = some _ from hq)) rfl 6 (Nat.le_of_ble_eq_true rfl) (hts _ q515) (fun _ h9 => h9) rfl dX0_refused_5 ?_
  refine g_ineg hx hb dX0_refused_8 ?_
  refine g_topz (y := (k : Int)) (by omega) ?_
  refine lv_dup2_11 hx hb dX0_refused_9 rfl rfl ?_
  refine g_iald hx hb hG (hG.vo hx2) k ⟨rfl, by omega, by omega⟩ (v := zI (aRf a k)) (hgr k hk8) dX0_refused_10 ?_
  refine lv_iconst (v := zI 1) hx hb dX0_refused_11 (by decide +kernel) ?_
  refine g_iadd hx hb dX0_refused_12 ?_
  refine g_iastV hx hb hG hx2 k ⟨rfl, by omega, by omega⟩ dX0_refused_13 (fun H locs (hG : gW X F (va_up V 1 (some (rf, aI (gT X 0) 8 (upd gr9 k (zI ((aRf a k) + 1)))))) (Z) s H locs) => ?_)
  have hx0 : (va_up V 1 (some (rf, aI (gT X 0) 8 (upd gr9 k (zI ((aRf a k) + 1)))))) 0 = some (x, oB 0 [.ref sa, .ref rf, .ref tr, .ref kl, .ref wa, va_rf im, .int (zI (aFa a))]) := (vun (by decide)).trans hx0
  have hx2 : (va_up V 1 (some (rf, aI (gT X 0) 8 (upd gr9 k (zI ((aRf a k) + 1)))))) 1 = some (rf, aI (gT X 0) 8 (upd gr9 k (zI ((aRf a k) + 1)))) := vus
  refine lv_aload_n hx hb dX0_refused_14 rfl (lv_at hl 1 rfl) ?_
  refine g_get (ci := 4) hx hb hts in_X5 hown hG (hG.fz (show F.1 q = some _ from hq)) rfl 6 (Nat.le_of_ble_eq_true rfl) (hts _ q515) (fun _ h9 => h9) rfl dX0_refused_15 ?_
  exact g_iret hx hb hr hlocks hG (⟨rfl, rfl, hSA.no hx2o hk8, rfl⟩) ⟨Nat.le_of_ble_eq_true rfl, Nat.le_of_ble_eq_true rfl⟩ dX0_refused_18

set_option maxHeartbeats 4000000 in
theorem metX0_beyond {l : Launch} {X : gX} {F : gF} {V : gV} {Z : va_W} {x sa rf tr tb kl wa rv rk st : Nat} {sh ra la ma : Nat → Nat} {im : Option Nat} {a : aS} (hS : xS X F V x a sa rf tr tb kl wa rv rk st sh ra la ma im) (hA : aOK a)  : Met l yX0_beyond (ws_ yX0_beyond cX0_beyond 1 (some FieldType.int)) ({ frames := 0, cells := 0, slots := 0, locals := 0 }) (gP X F V (Z) [.ref x]) (gQi X (fun u G U ws => u = zI (-5) ∧ F = G ∧ xS X F U x (aNo a 5) sa rf tr tb kl wa rv rk st sh ra la ma im ∧ Z = ws)) 0 0 (gA X) := by
  refine Met.g (by decide) (Nat.le_of_ble_eq_true rfl) ?_
  intro p e s m below meth c ls hx hb hr hts hown hlocks hml hin hG hl
  have hl : lv_has ls 1 [(0, .ref x)] := hl
  have hSA := hS
  obtain ⟨hx0, ⟨fs9, hx1, hsh⟩, ⟨gr9, hx2, hgr⟩, hx3, hx4, hW, hx6, hx7⟩ := hSA
  have hSA := hS
  have hK := hA.w
  have hx2o := hx2
  have hNN := hK.n
  have hMM := hK.m
  refine lv_aload_n hx hb dX0_beyond_0 rfl (lv_at hl 0 rfl) ?_
  refine g_get (ci := 0) hx hb hts in_X0 hown hG (hG.vo hx0) rfl 1 (Nat.le_of_ble_eq_true rfl) (hts _ q385) (fun _ h9 => h9) rfl dX0_beyond_1 ?_
  refine lv_iconst (v := zI 5) hx hb dX0_beyond_4 (by decide +kernel) ?_
  refine lv_dup2_11 hx hb dX0_beyond_5 rfl rfl ?_
  refine g_iald hx hb hG (hG.vo hx2) 5 ⟨rfl, by decide, by decide⟩ (v := zI (aRf a 5)) (hgr 5 (by decide)) dX0_beyond_6 ?_
  refine lv_iconst (v := zI 1) hx hb dX0_beyond_7 (by decide +kernel) ?_
  refine g_iadd hx hb dX0_beyond_8 ?_
  refine g_iastV hx hb hG hx2 5 ⟨rfl, by decide, by decide⟩ dX0_beyond_9 (fun H locs (hG : gW X F (va_up V 1 (some (rf, aI (gT X 0) 8 (upd gr9 5 (zI ((aRf a 5) + 1)))))) (Z) s H locs) => ?_)
  have hx0 : (va_up V 1 (some (rf, aI (gT X 0) 8 (upd gr9 5 (zI ((aRf a 5) + 1)))))) 0 = some (x, oB 0 [.ref sa, .ref rf, .ref tr, .ref kl, .ref wa, va_rf im, .int (zI (aFa a))]) := (vun (by decide)).trans hx0
  have hx2 : (va_up V 1 (some (rf, aI (gT X 0) 8 (upd gr9 5 (zI ((aRf a 5) + 1)))))) 1 = some (rf, aI (gT X 0) 8 (upd gr9 5 (zI ((aRf a 5) + 1)))) := vus
  refine lv_bipush (v := zI (-5)) hx hb dX0_beyond_10 (by decide +kernel) ?_
  exact g_iret hx hb hr hlocks hG (⟨rfl, rfl, hSA.no hx2o (by decide), rfl⟩) ⟨Nat.le_of_ble_eq_true rfl, Nat.le_of_ble_eq_true rfl⟩ dX0_beyond_12

set_option maxHeartbeats 4000000 in
theorem metX0_mustLine_t {l : Launch} {X : gX} {F : gF} {V : gV} {Z : va_W} {r nn lt : Nat} {fo9 : Option Nat} {t : Tx} {i : Int} (hrv : F.2 r = some (nn, fo9, lt)) (htx : isText X F lt t) (h24 : t.length ≤ 24) (hi9 : 0 ≤ i ∧ i < t.length) : Met l yX0_mustLine (ws_ yX0_mustLine cX0_mustLine 2 none) ({ frames := 1, cells := 0, slots := 0, locals := 21 }) (gP X F V (Z) [.ref r, .int (zI i)]) (gQv X (fun G U ws => F = G ∧ V = U ∧ Z = ws)) 0 0 (gA X) := by
  refine Met.g (by decide) (Nat.le_of_ble_eq_true rfl) ?_
  intro p e s m below meth c ls hx hb hr hts hown hlocks hml hin hG hl
  have hl : lv_has ls 2 [(0, .ref r), (1, .int (zI i))] := hl
  refine lv_aload_n hx hb dX0_mustLine_0 rfl (lv_at hl 0 rfl) ?_
  refine lv_iload_n hx hb dX0_mustLine_1 rfl (lv_at hl 1 rfl) ?_
  refine g_cq (va_runV (As := [.int (zI i)]) (rest := []) ⟨hx, hb, hml, hown, hts⟩ (metX14_at hrv htx (by omega)) (cwV 1 hts (lw_V q1754 q1755 q1756 q140 q1757) rfl rfl rfl (by decide +kernel) ⟨Nat.le_of_ble_eq_true rfl, Nat.le_of_ble_eq_true rfl⟩) (g_preV hG (rev_recv hG hrv)) rfl rfl hl.1 rfl (lv_room (Nat.le_of_ble_eq_true rfl)) dX0_mustLine_2 ⟨Nat.le_of_ble_eq_true rfl, Nat.le_of_ble_eq_true rfl⟩) hG (fun r_1 F_2 V_3 ws_ H locs hp hG => ?_)
  obtain ⟨hat9, rfl, rfl, rfl⟩ := hp
  obtain ⟨a9, hu⟩ : ∃ a9 : Nat, r_1 = some a9 := by rcases hat9 with ⟨h9, _⟩ | ⟨_, _, a9, h9, _⟩; exact absurd hi9 (by omega); exact ⟨a9, h9⟩
  subst hu
  have hG : gW X F V (Z) s H locs := hG
  refine lv_ifnull hx hb dX0_mustLine_5 ?_
  refine lv_iconst (v := zI 1) hx hb dX0_mustLine_8 (by decide +kernel) ?_
  refine lv_goto (tgt := 13) hx hb dX0_mustLine_9 (by decide) ?_
  refine lv_bipush (v := zI (-5)) hx hb dX0_mustLine_13 (by decide +kernel) ?_
  refine g_cv (va_runS (As := [.int (zI 1), .int (zI (-5))]) (rest := []) ⟨hx, hb, hml, hown, hts⟩ (metX0_need_t (b := 1) (by decide)) (va_cwS 2 hts (lw_S q520 q521 q87 q522) rfl rfl rfl (by decide +kernel) ⟨Nat.le_of_ble_eq_true rfl, Nat.le_of_ble_eq_true rfl⟩) (g_preS hG) rfl rfl hl.1 rfl (lv_room (Nat.le_of_ble_eq_true rfl)) dX0_mustLine_15 ⟨Nat.le_of_ble_eq_true rfl, Nat.le_of_ble_eq_true rfl⟩) hG (fun F_5 V_6 ws_ H locs hp hG => ?_)
  obtain ⟨rfl, rfl, rfl⟩ := hp
  have hG : gW X F V (Z) s H locs := hG
  exact g_vret hx hb hr hlocks hG (⟨rfl, rfl, rfl⟩) ⟨Nat.le_of_ble_eq_true rfl, Nat.le_of_ble_eq_true rfl⟩ dX0_mustLine_18

set_option maxHeartbeats 4000000 in
theorem metX0_mustLine_f {l : Launch} {X : gX} {F : gF} {V : gV} {Z : va_W} {r nn lt : Nat} {fo9 : Option Nat} {t : Tx} {i : Int} (hrv : F.2 r = some (nn, fo9, lt)) (htx : isText X F lt t) (h24 : t.length ≤ 24) (hi9 : (i < 0 ∨ (t.length : Int) ≤ i) ∧ (-2147483648 ≤ i ∧ i < 2147483648)) : vx_Met l yX0_mustLine (ws_ yX0_mustLine cX0_mustLine 2 none) ({ frames := 5, cells := 1, slots := 7, locals := 110 }) (gP X F V (Z) [.ref r, .int (zI i)]) (gQv X (fun _ _ _ => False)) (gXc X (fun E q G U ws => E = "LineRemarks$Refused" ∧ gLe F G ∧ isRef G q 5 ∧ V = U ∧ Z = ws)) 1 7 (gA X) := by
  refine vx_Met.g (by decide) (Nat.le_of_ble_eq_true rfl) ?_
  intro p e s m below meth c ls hx hb hr hts hown hlocks hml hin hnt hG hl
  have hl : lv_has ls 2 [(0, .ref r), (1, .int (zI i))] := hl
  refine lv_aload_n hx hb dX0_mustLine_0 rfl (lv_at hl 0 rfl) ?_
  refine lv_iload_n hx hb dX0_mustLine_1 rfl (lv_at hl 1 rfl) ?_
  refine g_cq (va_runV (As := [.int (zI i)]) (rest := []) ⟨hx, hb, hml, hown, hts⟩ (metX14_at hrv htx (by omega)) (cwV 1 hts (lw_V q1754 q1755 q1756 q140 q1757) rfl rfl rfl (by decide +kernel) ⟨Nat.le_of_ble_eq_true rfl, Nat.le_of_ble_eq_true rfl⟩) (g_preV hG (rev_recv hG hrv)) rfl rfl hl.1 rfl (lv_room (Nat.le_of_ble_eq_true rfl)) dX0_mustLine_2 ⟨Nat.le_of_ble_eq_true rfl, Nat.le_of_ble_eq_true rfl⟩) hG (fun r_1 F_2 V_3 ws_ H locs hp hG => ?_)
  obtain ⟨hat9, rfl, rfl, rfl⟩ := hp
  have hu : r_1 = none := by rcases hat9 with ⟨_, h9⟩ | ⟨h8, h9, _⟩; exact h9; exact absurd hi9 (by omega)
  subst hu
  have hG : gW X F V (Z) s H locs := hG
  refine lv_ifnullN (tgt := 12) hx hb dX0_mustLine_5 (by decide) ?_
  refine lv_iconst (v := zI 0) hx hb dX0_mustLine_12 (by decide +kernel) ?_
  refine lv_bipush (v := zI (-5)) hx hb dX0_mustLine_13 (by decide +kernel) ?_
  refine g_xv (vx_runS (As := [.int (zI 0), .int (zI (-5))]) (rest := []) ⟨hx, hb, hml, hown, hts⟩ (metX0_need_f (k := 5)) (va_cwS 2 hts (lw_S q520 q521 q87 q522) rfl rfl rfl (by decide +kernel) ⟨Nat.le_of_ble_eq_true rfl, Nat.le_of_ble_eq_true rfl⟩) (g_preS hG) rfl rfl hl.1 rfl (lv_room (Nat.le_of_ble_eq_true rfl)) dX0_mustLine_15 ⟨Nat.le_of_ble_eq_true rfl, Nat.le_of_ble_eq_true rfl⟩) hG (fun E9 ce9 q9 Fx_7 Vx_8 ws_ H locs hpx hG hce => ?_) (fun F_5 V_6 ws_ H locs hp hG => ?_)
  · obtain ⟨rfl, hle_Fx_7, hq9, rfl, rfl⟩ := hpx
    have hG : gW X Fx_7 V (Z) s H locs := hG
    exact g_out hown hlocks (fun z9 hz9 => (hnt z9 hz9).elim) hG hce (⟨rfl, hle_Fx_7, hq9, rfl, rfl⟩) ⟨Nat.le_of_ble_eq_true rfl, Nat.le_of_ble_eq_true rfl⟩
  exact hp.elim

set_option maxHeartbeats 4000000 in
theorem metX0_mustBehind_t {l : Launch} {X : gX} {F : gF} {V : gV} {Z : va_W} {t r : Nat} {w : aW} {ra la : Nat → Nat} (hR : xRv X F w ra la) (hK : wOK w) (ht9 : t < wN w) (hr9 : r < wN w) {n : Nat} (hbh : beh (wFo w) t r = some n) : Met l yX0_mustBehind (ws_ yX0_mustBehind cX0_mustBehind 2 none) ({ frames := 1, cells := 0, slots := 0, locals := 22 }) (gP X F V (Z) [.ref (ra t), .ref (ra r)]) (gQv X (fun G U ws => F = G ∧ V = U ∧ Z = ws)) 0 0 (gA X) := by
  refine Met.g (by decide) (Nat.le_of_ble_eq_true rfl) ?_
  intro p e s m below meth c ls hx hb hr hts hown hlocks hml hin hG hl
  have hl : lv_has ls 2 [(0, .ref (ra t)), (1, .ref (ra r))] := hl
  refine lv_aload_n hx hb dX0_mustBehind_0 rfl (lv_at hl 0 rfl) ?_
  refine lv_aload_n hx hb dX0_mustBehind_1 rfl (lv_at hl 1 rfl) ?_
  refine g_ci (va_runV (As := [.ref (ra r)]) (rest := []) ⟨hx, hb, hml, hown, hts⟩ (metX14_isBehind hR hK ht9 hr9) (cwV 1 hts (lw_V q1952 q1953 q1954 q140 q1955) rfl rfl rfl (by decide +kernel) ⟨Nat.le_of_ble_eq_true rfl, Nat.le_of_ble_eq_true rfl⟩) (g_preV hG (rev_recv hG (hR t ht9).1)) rfl rfl hl.1 rfl (lv_room (Nat.le_of_ble_eq_true rfl)) dX0_mustBehind_2 ⟨Nat.le_of_ble_eq_true rfl, Nat.le_of_ble_eq_true rfl⟩) hG (fun r_1 F_2 V_3 ws_ H locs hp hG => ?_)
  obtain ⟨rfl, rfl, rfl, rfl⟩ := hp
  have hG : gW X F V (Z) s H locs := hG
  refine g_topz (y := 1) (by rw [hbh]; rfl) ?_
  refine lv_bipush (v := zI (-6)) hx hb dX0_mustBehind_5 (by decide +kernel) ?_
  refine g_cv (va_runS (As := [.int (zI 1), .int (zI (-6))]) (rest := []) ⟨hx, hb, hml, hown, hts⟩ (metX0_need_t (b := 1) (by decide)) (va_cwS 2 hts (lw_S q520 q521 q87 q522) rfl rfl rfl (by decide +kernel) ⟨Nat.le_of_ble_eq_true rfl, Nat.le_of_ble_eq_true rfl⟩) (g_preS hG) rfl rfl hl.1 rfl (lv_room (Nat.le_of_ble_eq_true rfl)) dX0_mustBehind_7 ⟨Nat.le_of_ble_eq_true rfl, Nat.le_of_ble_eq_true rfl⟩) hG (fun F_5 V_6 ws_ H locs hp hG => ?_)
  obtain ⟨rfl, rfl, rfl⟩ := hp
  have hG : gW X F V (Z) s H locs := hG
  exact g_vret hx hb hr hlocks hG (⟨rfl, rfl, rfl⟩) ⟨Nat.le_of_ble_eq_true rfl, Nat.le_of_ble_eq_true rfl⟩ dX0_mustBehind_10

set_option maxHeartbeats 4000000 in
theorem metX0_mustBehind_f {l : Launch} {X : gX} {F : gF} {V : gV} {Z : va_W} {t r : Nat} {w : aW} {ra la : Nat → Nat} (hR : xRv X F w ra la) (hK : wOK w) (ht9 : t < wN w) (hr9 : r < wN w) (hbh : beh (wFo w) t r = none) : vx_Met l yX0_mustBehind (ws_ yX0_mustBehind cX0_mustBehind 2 none) ({ frames := 5, cells := 1, slots := 7, locals := 110 }) (gP X F V (Z) [.ref (ra t), .ref (ra r)]) (gQv X (fun _ _ _ => False)) (gXc X (fun E q G U ws => E = "LineRemarks$Refused" ∧ gLe F G ∧ isRef G q 6 ∧ V = U ∧ Z = ws)) 1 7 (gA X) := by
  refine vx_Met.g (by decide) (Nat.le_of_ble_eq_true rfl) ?_
  intro p e s m below meth c ls hx hb hr hts hown hlocks hml hin hnt hG hl
  have hl : lv_has ls 2 [(0, .ref (ra t)), (1, .ref (ra r))] := hl
  refine lv_aload_n hx hb dX0_mustBehind_0 rfl (lv_at hl 0 rfl) ?_
  refine lv_aload_n hx hb dX0_mustBehind_1 rfl (lv_at hl 1 rfl) ?_
  refine g_ci (va_runV (As := [.ref (ra r)]) (rest := []) ⟨hx, hb, hml, hown, hts⟩ (metX14_isBehind hR hK ht9 hr9) (cwV 1 hts (lw_V q1952 q1953 q1954 q140 q1955) rfl rfl rfl (by decide +kernel) ⟨Nat.le_of_ble_eq_true rfl, Nat.le_of_ble_eq_true rfl⟩) (g_preV hG (rev_recv hG (hR t ht9).1)) rfl rfl hl.1 rfl (lv_room (Nat.le_of_ble_eq_true rfl)) dX0_mustBehind_2 ⟨Nat.le_of_ble_eq_true rfl, Nat.le_of_ble_eq_true rfl⟩) hG (fun r_1 F_2 V_3 ws_ H locs hp hG => ?_)
  obtain ⟨rfl, rfl, rfl, rfl⟩ := hp
  have hG : gW X F V (Z) s H locs := hG
  refine g_topz (y := 0) (by rw [hbh]; rfl) ?_
  refine lv_bipush (v := zI (-6)) hx hb dX0_mustBehind_5 (by decide +kernel) ?_
  refine g_xv (vx_runS (As := [.int (zI 0), .int (zI (-6))]) (rest := []) ⟨hx, hb, hml, hown, hts⟩ (metX0_need_f (k := 6)) (va_cwS 2 hts (lw_S q520 q521 q87 q522) rfl rfl rfl (by decide +kernel) ⟨Nat.le_of_ble_eq_true rfl, Nat.le_of_ble_eq_true rfl⟩) (g_preS hG) rfl rfl hl.1 rfl (lv_room (Nat.le_of_ble_eq_true rfl)) dX0_mustBehind_7 ⟨Nat.le_of_ble_eq_true rfl, Nat.le_of_ble_eq_true rfl⟩) hG (fun E9 ce9 q9 Fx_7 Vx_8 ws_ H locs hpx hG hce => ?_) (fun F_5 V_6 ws_ H locs hp hG => ?_)
  · obtain ⟨rfl, hle_Fx_7, hq9, rfl, rfl⟩ := hpx
    have hG : gW X Fx_7 V (Z) s H locs := hG
    exact g_out hown hlocks (fun z9 hz9 => (hnt z9 hz9).elim) hG hce (⟨rfl, hle_Fx_7, hq9, rfl, rfl⟩) ⟨Nat.le_of_ble_eq_true rfl, Nat.le_of_ble_eq_true rfl⟩
  exact hp.elim

