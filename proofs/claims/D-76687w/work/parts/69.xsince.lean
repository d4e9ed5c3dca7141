set_option maxRecDepth 100000
/-- the revisions from the k-th before t on, to t -/
def sncL (fo : Nat → Option Nat) (ra : Nat → Nat) (t k : Nat) : List Nat := (List.range k).map (fun i => ra (anc fo (k - 1 - i) t))
theorem sncL_S (fo : Nat → Option Nat) (ra : Nat → Nat) (t k : Nat) : ra (anc fo k t) :: sncL fo ra t k = sncL fo ra t (k + 1) := by
  unfold sncL
  rw [List.range_succ_eq_map, List.map_cons, List.map_map]
  congr 1
  refine List.map_congr_left fun i _ => ?_
  show ra (anc fo (k - 1 - i) t) = ra (anc fo (k + 1 - 1 - (i + 1)) t)
  rw [show k + 1 - 1 - (i + 1) = k - 1 - i by omega]
theorem sncL_len (fo : Nat → Option Nat) (ra : Nat → Nat) (t k : Nat) : (sncL fo ra t k).length = k := by unfold sncL; rw [List.length_map, List.length_range]
theorem sncL_get {fo : Nat → Option Nat} {ra : Nat → Nat} {t k i : Nat} (hi : i < k) : (sncL fo ra t k).getD i 0 = ra (anc fo (k - 1 - i) t) := by
  unfold sncL
  rw [List.getD_eq_getElem?_getD, List.getElem?_map, List.getElem?_range hi]; rfl
theorem anc_dn {fo : Nat → Option Nat} (hf : ∀ r f, fo r = some f → f < r) {t n : Nat} (h : ∀ k, k < n → fo (anc fo k t) = some (anc fo (k + 1) t)) (k : Nat) : ∀ d, k + d + 1 ≤ n → anc fo (k + d + 1) t < anc fo k t := by
  intro d
  induction d with
  | zero => intro hd; exact hf _ _ (h k (by omega))
  | succ d ih =>
    intro hd
    have h1 := hf _ _ (h (k + d + 1) (by omega))
    have h2 := ih (by omega)
    exact Nat.lt_trans h1 h2
theorem anc_eq {fo : Nat → Option Nat} (hf : ∀ r f, fo r = some f → f < r) {t r n k : Nat} (h : beh fo t r = some n) (hk : k ≤ n) : anc fo k t = r ↔ k = n := by
  obtain ⟨h1, h2, h3⟩ := beh_anc hf n t r h
  refine ⟨fun q => ?_, fun q => by rw [q]; exact h3⟩
  rcases Nat.lt_or_ge k n with hkn | hkn
  · have := anc_dn hf h2 k (n - k - 1) (by omega)
    rw [show k + (n - k - 1) + 1 = n by omega, h3] at this
    omega
  · omega
set_option maxHeartbeats 4000000 in
theorem metX14_since {l : Launch} {X : gX} {F : gF} {V : gV} {Z : va_W} {t r n : Nat} {w : aW} {ra la : Nat → Nat} (hR : xRv X F w ra la) (hK : wOK w) (ht9 : t < wN w) (hr9 : r < wN w) (hbh : beh (wFo w) t r = some n) : Met l yX14_since (ws_ yX14_since cX14_since 4 (some (FieldType.object "java/util/ArrayDeque"))) ({ frames := 3, cells := 2, slots := 20, locals := 60 }) (gP X F V (Z) [.ref (ra t), .ref (ra r)]) (gQr X (fun dq G U ws => F = G ∧ V = U ∧ ∃ (es h : Nat) (f : Nat → Option Nat), dqR f h 0 (sncL (wFo w) ra t (n + 1)) ∧ ((dq, oB 30 [.ref es, .int (zI (h : Int)), .int (zI 0)]) :: (es, aR (gT X 10) 17 f) :: Z) = ws)) 2 20 (gA X) := by
  refine Met.g (by decide) (Nat.le_of_ble_eq_true rfl) ?_
  intro p e s m below meth c ls hx hb hr hts hown hlocks hml hin hG hl
  have hl : lv_has ls 4 [(0, .ref (ra t)), (1, .ref (ra r))] := hl
  obtain ⟨hle, hfo, hend⟩ := beh_anc hK.fo n t r hbh
  have hNN := hK.n
  have hn16 := hle n (Nat.le_refl n)
  refine g_new (ci := 30) hx hb hts in_J36 tyJ36 tyJ36_ok hown (hts _ q1960) (hts _ q1961) (hts _ q139) hG rfl (fs := [.null, .int (zI 0), .int (zI 0)]) rfl ⟨Nat.le_of_ble_eq_true rfl, Nat.le_of_ble_eq_true rfl⟩ dX14_since_0 (fun dq H (hG : gW X F V ((dq, oB 30 [.null, .int (zI 0), .int (zI 0)]) :: Z) s H _) => ?_)
  refine lv_dup hx hb dX14_since_3 rfl ?_
  refine g_cv (va_runI (As := []) (rest := [.ref dq]) ⟨hx, hb, hml, hown, hts⟩ (metJ36_init) (cwI 0 hts (lw_meth q1964) rfl rfl rfl (hts _ q139) (hts _ q1962) (hts _ q1963) rfl (by decide +kernel) ⟨Nat.le_of_ble_eq_true rfl, Nat.le_of_ble_eq_true rfl⟩) (g_preS hG) rfl rfl hl.1 rfl (lv_room (Nat.le_of_ble_eq_true rfl)) dX14_since_4 ⟨Nat.le_of_ble_eq_true rfl, Nat.le_of_ble_eq_true rfl⟩) hG (fun F_2 V_3 ws_ H locs hp hG => ?_)
  obtain ⟨rfl, rfl, es, rfl⟩ := hp
  have hG : gW X F V ((es, aR (gT X 10) 17 (fun _ => none)) :: (dq, oB 30 [.ref es, .int (zI 0), .int (zI 0)]) :: Z) s H locs := hG
  have hG : gW X F V ((dq, oB 30 [.ref es, .int (zI 0), .int (zI 0)]) :: (es, aR (gT X 10) 17 (fun _ => none)) :: Z) s _ _ := hG.pull 1 rfl rfl
  refine lv_astore_n (lv' := [(2, .ref dq), (0, .ref (ra t)), (1, .ref (ra r))]) hx hb dX14_since_7 rfl hl (by decide) rfl (fun ls hl => ?_)
  refine lv_aload_n hx hb dX14_since_8 rfl (lv_at hl 1 rfl) ?_
  refine lv_astore_n (lv' := [(3, .ref (ra t)), (2, .ref dq), (0, .ref (ra t)), (1, .ref (ra r))]) hx hb dX14_since_9 rfl hl (by decide) rfl (fun ls hl => ?_)
  refine g_loop (fun mz H locs ls => ∃ (k h : Nat) (f : Nat → Option Nat), (k ≤ n ∧ mz = n - k ∧ dqR f h 0 (sncL (wFo w) ra t k)) ∧ gW X F V ((dq, oB 30 [.ref es, .int (zI (h : Int)), .int (zI 0)]) :: (es, aR (gT X 10) 17 f) :: Z) s H locs ∧ lv_has ls 4 [(0, .ref (ra t)), (1, .ref (ra r)), (2, .ref dq), (3, .ref (ra (anc (wFo w) k t)))]) (n - 0) ⟨0, 0, _, ⟨Nat.zero_le _, rfl, dqR.nil⟩, hG, (lv_sub hl [2, 3, 1, 0] rfl)⟩ (fun mz ihA H locs ls hI => ?_)
  obtain ⟨k, h, f, ⟨hk, hmz, hdq⟩, hG, hl⟩ := hI
  have hck := hle k hk
  refine lv_aload_n hx hb dX14_since_10 rfl (lv_at hl 3 rfl) ?_
  refine lv_aload_n hx hb dX14_since_11 rfl (lv_at hl 1 rfl) ?_
  refine lv_acmp_eq (rx := (some (ra (anc (wFo w) k t)))) (ry := (some (ra r))) (tgt := 28) hx hb dX14_since_12 (by decide) (fun h1 => ?_) (fun h1 => ?_)
  · have hkn : k = n := (anc_eq hK.fo hbh hk).mp (hR.inj (by omega) hr9 (Option.some.inj h1))
    rw [hkn] at hdq
    have hl2 := sncL_len (wFo w) ra t n
    refine lv_aload_n hx hb dX14_since_28 rfl (lv_at hl 2 rfl) ?_
    refine lv_aload_n hx hb dX14_since_29 rfl (lv_at hl 1 rfl) ?_
    refine g_cv (va_runV (As := [.ref (ra r)]) (rest := []) ⟨hx, hb, hml, hown, hts⟩ (metJ36_addFirst (hR r hr9).1 hdq (by omega)) (cwV 1 hts (lw_V q1979 q1980 q1981 q139 q1982) rfl rfl rfl (by decide +kernel) ⟨Nat.le_of_ble_eq_true rfl, Nat.le_of_ble_eq_true rfl⟩) (g_preV hG (g_recv hG (hG.at 0 rfl) (ci := 30) rfl)) rfl rfl hl.1 rfl (lv_room (Nat.le_of_ble_eq_true rfl)) dX14_since_30 ⟨Nat.le_of_ble_eq_true rfl, Nat.le_of_ble_eq_true rfl⟩) hG (fun F_5 V_6 ws_ H locs hp hG => ?_)
    obtain ⟨rfl, rfl, rfl⟩ := hp
    have hG : gW X F V ((dq, oB 30 [.ref es, .int (zI (((h + 16) % 17 : Nat) : Int)), .int (zI 0)]) :: (es, aR (gT X 10) 17 (va_up f ((h + 16) % 17) (some (ra r)))) :: Z) s H locs := hG
    refine lv_aload_n hx hb dX14_since_33 rfl (lv_at hl 2 rfl) ?_
    exact g_rret hx hb hr (Or.inl ⟨_, rfl⟩) hlocks hG (⟨rfl, rfl, es, (h + 16) % 17, va_up f ((h + 16) % 17) (some (ra r)), by have q := hdq.front (a := ra r) (by omega); rw [← hend, sncL_S, hend] at q; exact q, rfl⟩) ⟨Nat.le_of_ble_eq_true rfl, Nat.le_of_ble_eq_true rfl⟩ dX14_since_34
  · have hkn : k < n := by rcases Nat.lt_or_ge k n with q | q; exact q; exact absurd (by rw [(anc_eq hK.fo hbh hk).mpr (by omega)]) h1
    have hl2 := sncL_len (wFo w) ra t k
    refine lv_aload_n hx hb dX14_since_15 rfl (lv_at hl 2 rfl) ?_
    refine lv_aload_n hx hb dX14_since_16 rfl (lv_at hl 3 rfl) ?_
    refine g_cv (va_runV (As := [.ref (ra (anc (wFo w) k t))]) (rest := []) ⟨hx, hb, hml, hown, hts⟩ (metJ36_addFirst (hR (anc (wFo w) k t) (by omega)).1 hdq (by omega)) (cwV 1 hts (lw_V q1979 q1980 q1981 q139 q1982) rfl rfl rfl (by decide +kernel) ⟨Nat.le_of_ble_eq_true rfl, Nat.le_of_ble_eq_true rfl⟩) (g_preV hG (g_recv hG (hG.at 0 rfl) (ci := 30) rfl)) rfl rfl hl.1 rfl (lv_room (Nat.le_of_ble_eq_true rfl)) dX14_since_17 ⟨Nat.le_of_ble_eq_true rfl, Nat.le_of_ble_eq_true rfl⟩) hG (fun F_8 V_9 ws_ H locs hp hG => ?_)
    obtain ⟨rfl, rfl, rfl⟩ := hp
    have hG : gW X F V ((dq, oB 30 [.ref es, .int (zI (((h + 16) % 17 : Nat) : Int)), .int (zI 0)]) :: (es, aR (gT X 10) 17 (va_up f ((h + 16) % 17) (some (ra (anc (wFo w) k t))))) :: Z) s H locs := hG
    refine lv_aload_n hx hb dX14_since_20 rfl (lv_at hl 3 rfl) ?_
    obtain ⟨vc_10, hrvc_10, hgvc_10⟩ := hG.rv (hR (anc (wFo w) k t) (by omega)).1
    refine g_get (ci := 12) hx hb hts in_X14 hown hG hrvc_10 rfl 1 (Nat.le_of_ble_eq_true rfl) (hts _ q1722) (fun _ h9 => h9) rfl dX14_since_21 ?_
    refine g_astore_nq (lv' := [(3, va_rf ((wFo w (anc (wFo w) k t)).map ra)), (0, .ref (ra t)), (1, .ref (ra r)), (2, .ref dq)]) hx hb dX14_since_24 rfl hl (by decide) rfl (fun ls hl => ?_)
    refine lv_goto (tgt := 10) hx hb dX14_since_25 (by decide) ?_
    have hf1 := hfo k hkn
    have hl : lv_has ls 4 [(3, .ref (ra (anc (wFo w) (k + 1) t))), (0, .ref (ra t)), (1, .ref (ra r)), (2, .ref dq)] := by rw [hf1] at hl; exact hl
    exact ihA (n - (k + 1)) (by omega) H locs ls ⟨(k + 1), ((h + 16) % 17), _, ⟨by omega, rfl, by have q := hdq.front (a := ra (anc (wFo w) k t)) (by omega); rw [sncL_S] at q; exact q⟩, hG, (lv_sub hl [1, 2, 3, 0] rfl)⟩

