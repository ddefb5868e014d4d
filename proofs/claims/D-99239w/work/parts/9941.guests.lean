set_option maxRecDepth 100000
/-! ===== guests: refuse, better ===== -/
theorem better_congr {N : nk_N} {fr bk : Nat → Int32} {l : List (List Nat)} {folds : Nat} {f f2 : Nat → Int32} (h : ∀ i, i < (nk_w N).length → f i = f2 i) : nk_better N fr bk l folds f = nk_better N fr bk l folds f2 := by
  unfold nk_better
  have e1 : (List.range (nk_w N).length).all (fun gs => decide (f gs ≤ nk_likes N fr bk l folds gs)) = (List.range (nk_w N).length).all (fun gs => decide (f2 gs ≤ nk_likes N fr bk l folds gs)) := by
    rw [Bool.eq_iff_iff, List.all_eq_true, List.all_eq_true]
    exact ⟨fun q x hx => by rw [← h x (List.mem_range.mp hx)]; exact q x hx, fun q x hx => by rw [h x (List.mem_range.mp hx)]; exact q x hx⟩
  have e2 : (List.range (nk_w N).length).any (fun gs => decide (f gs < nk_likes N fr bk l folds gs)) = (List.range (nk_w N).length).any (fun gs => decide (f2 gs < nk_likes N fr bk l folds gs)) := by
    rw [Bool.eq_iff_iff, List.any_eq_true, List.any_eq_true]
    exact ⟨fun ⟨x, hx, q⟩ => ⟨x, hx, by rw [← h x (List.mem_range.mp hx)]; exact q⟩, fun ⟨x, hx, q⟩ => ⟨x, hx, by rw [h x (List.mem_range.mp hx)]; exact q⟩⟩
  rw [e1, e2]
section CP41
variable {g : nd_G} {d : Nat} {K : nd_K} {h : nd_H} {o : Nat → Nat} {nap : Nat} {ds : List Nat} {gi : Nat → Value} {dss : Nat → List Nat} {S : sy_S}
theorem cw_likes (hg : nd_OK g) (hd : 910 ≤ d) (hS : sy_ok S) (hs : cw_S h) (hK : cw_K o nap ds gi dss S h) {L folds gs : Nat} {l : List (List Nat)} (hl : ck_lk h L l) (hL9 : L + 9 ≤ 94 ∨ 95 ≤ L) (hok : lk_ok (sy_n S) l) (hgs : gs < (nk_w (sy_N S)).length) (hk : ∀ h2, ck_fr 94 1 h h2 → cw_f h h2 → cw_S h2 → K (.inl (some (.int (nk_likes (sy_N S) (sv_fr (sy_c S)) (sv_bk (sy_c S)) l folds gs)))) h2) : nd_M g mX1_likes d 0 0 [.ref 0, .int (nI gs), .ref L, .int (nI folds)] h K :=
  cx_likes hg hd (hK.P hs) hS.1.2.1 hS.1.1 hl hL9 hok hgs (fun h2 tl f hT => hk h2 f (f.cwf (fun a a1 a2 => by unfold cw_sc; omega)) (((hK.P hs).ask f hT).S hs (fun a ha => f.2 a (by omega))))
theorem cw_nowL (hg : nd_OK g) (hd : 4 ≤ d) (hS : sy_ok S) (hs : cw_S h) (hK : cw_K o nap ds gi dss S h) (hk : ∀ h2 R, (R = 72 ∨ R = 81) → h2.length = h.length → cw_f h h2 → cw_S h2 → cw_K o nap ds gi dss S h2 → ck_lk h2 R (sy_l S) → K (.inl (some (.ref R))) h2) : nd_M g mX1_now d 0 0 [.ref 0] h K :=
  cx_now hg hd (hK.P hs) hS.1.1.1 hS.1.2.1.1 (fun h2 R hR f hl hP => by
    have f2 : cw_f h h2 := f.cwf (fun a h1 h2 => by unfold cw_sc; omega)
    exact hk h2 R hR f.1 f2 (hP.S hs (fun a ha => f.2 a (by omega))) (hK.f f2) hl)
theorem cx_likesNow (hg : nd_OK g) (hd : 920 ≤ d) (hS : sy_ok S) (hs : cw_S h) (hK : cw_K o nap ds gi dss S h) (hl123 : 123 ≤ h.length) (hk : ∀ h2 f, cw_f h h2 → cw_S h2 → h2.length = h.length + 1 → h2[h.length]? = some (.inl (0, (nk_w (sy_N S)).length, .inl f)) → (∀ i, i < (nk_w (sy_N S)).length → f i = sy_likes S i) → K (.inl (some (.ref h.length))) h2) : nd_M g mX1_likesNow d 1 4 [.ref 0] h K := by
  have hw4 : (nk_w (sy_N S)).length ≤ 4 := hS.1.1.2.2.1
  have hok := sy_l_ok hS
  obtain ⟨⟨x0, hO⟩, -⟩ := id hK
  unfold cx_O at hO
  refine nd_enter hg (by decide) rfl (Nat.le_of_ble_eq_true rfl) (fun X hC => ?_)
  refine nd_aload_n hC dX1_likesNow_0 rfl rfl ?_
  refine nd_callV (mm2 := mX1_guests) (As := []) (mc2 := 0) (ms2 := 0) (d2 := d - 1) hC rfl lkX1_280 ⟨rfl, lmX1_guests⟩ (hO) rfl (Nat.le_of_ble_eq_true rfl) (by omega) rfl (by exact Nat.le_of_ble_eq_true rfl) (by omega) (by omega) dX1_likesNow_1 rfl ((cx_guests hg (by omega) (hK.P hs) ?_))
  refine nd_newarray hC (atype := .int) (ty := 0) .int (.inl (fun _ => 0)) q322 rfl rfl (fun _ _ => rfl) (N := (nk_w (sy_N S)).length) rfl (nI_toInt (by omega)) (by show (nk_w (sy_N S)).length * 4 ≤ 536870912; omega) (by omega) (by omega) dX1_likesNow_4 ?_
  refine nd_astore_n hC dX1_likesNow_6 (Nat.le_of_ble_eq_true rfl) rfl ?_
  refine nd_iconst hC (v := nI 0) (by rfl) dX1_likesNow_7 ?_
  refine nd_istore_n hC dX1_likesNow_8 (Nat.le_of_ble_eq_true rfl) ?_
  have L : ∀ k, k ≤ (nk_w (sy_N S)).length → ∀ h2 f, cw_f h h2 → cw_S h2 → h2.length = h.length + 1 → h2[h.length]? = some (.inl (0, (nk_w (sy_N S)).length, .inl f)) → (∀ i, i < k → f i = sy_likes S i) → nd_W g mX1_likesNow d 1 4 K X 9 [some (.ref 0), some (.ref h.length), some (.int (nI k))] [] h2 (0 + 0 + 1) (0 + 0 + (nk_w (sy_N S)).length) := by
    refine nd_for _ _ ?_ ?_
    · intro h2 f f2 hs2 hl2 hn9 hf
      have hK2 := hK.f f2
      obtain ⟨⟨x2, hO2⟩, -⟩ := id hK2
      unfold cx_O at hO2
      refine nd_iload_n hC dX1_likesNow_9 rfl ?_
      refine nd_aload_n hC dX1_likesNow_10 rfl rfl ?_
      refine nd_callV (mm2 := mX1_guests) (As := []) (mc2 := 0) (ms2 := 0) (d2 := d - 1) hC rfl lkX1_280 ⟨rfl, lmX1_guests⟩ (hO2) rfl (Nat.le_of_ble_eq_true rfl) (by omega) rfl (by exact Nat.le_of_ble_eq_true rfl) (by omega) (by omega) dX1_likesNow_11 rfl ((cx_guests hg (by omega) (hK2.P hs2) ?_))
      first | with_reducible refine nd_icmp_geN hC (tgt := 42) (by omega) (by omega) dX1_likesNow_14 (by decide) (fun hc => ?_) (fun hc => ?_) | refine nd_icmp_ge hC (tgt := 42) dX1_likesNow_14 (by decide) (fun hc => ?_) (fun hc => ?_)
      · refine nd_aload_n hC dX1_likesNow_42 rfl rfl ?_
        refine nd_areturn hC rfl (by first | exact Or.inl ⟨_, rfl⟩ | exact Or.inr ⟨_, rfl⟩) (by rfl) (by omega) (by omega) dX1_likesNow_43 ((hk h2 f f2 hs2 hl2 hn9 hf))
      · omega
    · intro k hk1 ih h2 f f2 hs2 hl2 hn9 hf
      have hK2 := hK.f f2
      obtain ⟨⟨x2, hO2⟩, -⟩ := id hK2
      unfold cx_O at hO2
      refine nd_iload_n hC dX1_likesNow_9 rfl ?_
      refine nd_aload_n hC dX1_likesNow_10 rfl rfl ?_
      refine nd_callV (mm2 := mX1_guests) (As := []) (mc2 := 0) (ms2 := 0) (d2 := d - 1) hC rfl lkX1_280 ⟨rfl, lmX1_guests⟩ (hO2) rfl (Nat.le_of_ble_eq_true rfl) (by omega) rfl (by exact Nat.le_of_ble_eq_true rfl) (by omega) (by omega) dX1_likesNow_11 rfl ((cx_guests hg (by omega) (hK2.P hs2) ?_))
      first | with_reducible refine nd_icmp_geN hC (tgt := 42) (by omega) (by omega) dX1_likesNow_14 (by decide) (fun hc => ?_) (fun hc => ?_) | refine nd_icmp_ge hC (tgt := 42) dX1_likesNow_14 (by decide) (fun hc => ?_) (fun hc => ?_)
      · omega
      refine nd_aload_n hC dX1_likesNow_17 rfl rfl ?_
      refine nd_iload_n hC dX1_likesNow_18 rfl ?_
      refine nd_aload_n hC dX1_likesNow_19 rfl rfl ?_
      refine nd_iload_n hC dX1_likesNow_20 rfl ?_
      refine nd_aload_n hC dX1_likesNow_21 rfl rfl ?_
      refine nd_callV (mm2 := mX1_now) (As := []) (mc2 := 0) (ms2 := 0) (d2 := d - 1) hC rfl lkX1_161 ⟨rfl, lmX1_now⟩ (hO2) rfl (Nat.le_of_ble_eq_true rfl) (by omega) rfl (by exact Nat.le_of_ble_eq_true rfl) (by omega) (by omega) dX1_likesNow_22 rfl ((cw_nowL hg (by omega) hS hs2 hK2 (fun h3 R hR hlen3 f3 hs3 hK3 hl3 => ?_)))
      obtain ⟨⟨x3, hO2⟩, -, hkk2, -⟩ := id hK3
      unfold cx_O at hO2
      obtain ⟨sfr2, sbk2, sfo2, smn2, hS2, hcv2⟩ := id hkk2.2.1
      obtain ⟨hS21, hS22, hS23, hS24⟩ := id hS2
      have cv1 : smn2 = nI (sy_c S).1.length := hcv2.1
      subst cv1
      refine nd_aload_n hC dX1_likesNow_25 rfl rfl ?_
      refine nd_get (ci := nX1) hC in_X1 rfl hO2 0 (by decide) q384 (fun _ z => z) rfl dX1_likesNow_26 ?_
      refine nd_getN (ci := nX2) hC in_X2 rfl hS21 4 (by decide) q310 (fun _ z => z) rfl dX1_likesNow_29 ?_
      refine nd_callV (mm2 := mX1_likes) (As := [_, _, _]) (mc2 := 0) (ms2 := 0) (d2 := d - 1) hC rfl lkX1_282 ⟨rfl, lmX1_likes⟩ (hO2) rfl (Nat.le_of_ble_eq_true rfl) (by omega) rfl (by exact Nat.le_of_ble_eq_true rfl) (by omega) (by omega) dX1_likesNow_32 rfl ((cw_likes hg (by omega) hS hs3 hK3 hl3 (by omega) hok (show k < (nk_w (sy_N S)).length by omega) (fun h4 f4 f4' hs4 => ?_)))
      have hn4 : h4[h.length]? = some (.inl (0, (nk_w (sy_N S)).length, .inl f)) := f4'.2 _ _ (f3.2 _ _ hn9 (cw_hi (by omega))) (cw_hi (by omega))
      refine nd_iastoreN hC hn4 hk1 (by omega) dX1_likesNow_35 ?_
      first | with_reducible refine nd_iincN hC dX1_likesNow_36 rfl (Nat.le_of_ble_eq_true rfl) ?_ | refine nd_iinc hC dX1_likesNow_36 rfl rfl (Nat.le_of_ble_eq_true rfl) ?_
      refine nd_goto hC (tgt := 9) dX1_likesNow_39 (by decide) ?_
      have hl4 : h4.length = h.length + 1 := by
        rw [f4.1, hlen3, hl2]
      exact ih _ _ ((f2.trans (f3.trans f4')).set (Or.inl (Nat.le_refl _))) (hs4.set (by omega)) (by rw [List.length_set]; exact hl4) (List.getElem?_set_self (nd_get_lt hn4)) (fun i hi => by
        by_cases z : i = k
        · subst z; rw [upd_s]
        · rw [upd_n z]; exact hf i (by omega))
  exact L 0 (Nat.zero_le _) _ (fun _ => 0) cw_f.rfl.app hs.app (by simp) (by simp) (fun i hi => absurd hi (Nat.not_lt_zero _))
theorem cp_better (hg : nd_OK g) (hd : 960 ≤ d) (x : Int32) : cp_ok g mX1_better d 1220 80060 [.int x] (ex1 eIAE) (mp_i (op_better x)) := by
  intro S h K hS hI hl123 hk0 hk1
  obtain ⟨hs, o, nap, ds, gi, dss, hK⟩ := hI
  obtain ⟨⟨x0, hO⟩, h17, hkk, -⟩ := id hK
  unfold cx_O at hO
  have hok := sy_l_ok hS
  have hwd := lk_width hok
  have hn : sy_n S ≤ 6 := hS.1.1.1
  have h5 := sy_len5 hS
  obtain ⟨sfr, sbk, sfo, smn, hSt, hcv⟩ := id hkk.2.1
  obtain ⟨hSt1, hSt2, hSt3, hSt4⟩ := id hSt
  have hcv : cs_v sfr sbk sfo smn (sy_c S) := hcv
  have hsv : sv_ok (sy_n S) (sy_c S) := hS.1.2.1
  unfold mp_i op_better op_many at hk0 hk1
  refine nd_enter hg (by decide) rfl (Nat.le_of_ble_eq_true rfl) (fun X hC => ?_)
  refine nd_iload_n hC dX1_better_0 rfl ?_
  refine nd_callS (mm2 := mX1_mustRows) (As := [_]) (mc2 := 1) (ms2 := 6) (d2 := d - 1) hC rfl lkX1_368 lmX1_mustRows (Nat.le_of_ble_eq_true rfl) (by omega) rfl (by exact Nat.le_of_ble_eq_true rfl) (by omega) (by omega) dX1_better_1 rfl ((cx_mustRows hg (by omega) (fun hc => ?_) (fun hc n => ?_)))
  · rw [if_pos hc] at hk0
    obtain ⟨m, hm9, rfl⟩ := op_in_nat hc
    have hm5 : m ≤ 5 := by omega
    rw [nI_cl (by omega)] at hk0
    refine nd_aload_n hC dX1_better_4 rfl rfl ?_
    refine nd_callV (mm2 := mX1_likesNow) (As := []) (mc2 := 1) (ms2 := 4) (d2 := d - 1) hC rfl lkX1_492 ⟨rfl, lmX1_likesNow⟩ (hO) rfl (Nat.le_of_ble_eq_true rfl) (by omega) rfl (by exact Nat.le_of_ble_eq_true rfl) (by omega) (by omega) dX1_better_5 rfl ((cx_likesNow hg (by omega) hS hs hK hl123 (fun hu nf fu hsu hlenu hnz hnf => ?_)))
    have hKu := hK.f fu
    have hlu : 123 ≤ hu.length := by omega
    refine nd_astore_n hC dX1_better_8 (Nat.le_of_ble_eq_true rfl) rfl ?_
    refine nd_new (ci := nX37) hC [.int 0, .null, .null, .null, .null, .null] in_X37 rfl tyX37 tyX37_ok q2439 q2440 q213 rfl rfl (by omega) (by omega) dX1_better_9 ?_
    refine nd_dup hC (by rfl) dX1_better_12 ?_
    refine nd_aload_n hC dX1_better_13 rfl rfl ?_
    refine nd_aload_n hC dX1_better_14 rfl rfl ?_
    refine nd_callI (mm2 := mX37_init) (As := [_, _]) (mc2 := 1) (ms2 := 5) (d2 := d - 1) hC rfl rfl q2443 q213 q2441 q2442 rfl lmX37_init (Nat.le_of_ble_eq_true rfl) (by omega) rfl (by exact Nat.le_of_ble_eq_true rfl) (by omega) (by omega) dX1_better_15 rfl ((ni_X37 hg (by omega) (List.getElem?_concat_length ..) ?_))
    rw [show (hu ++ [(.inr (nX37, [.int 0, .null, .null, .null, .null, .null]) : nd_C)]).length = hu.length + 1 by simp]
    generalize hh1 : (hu ++ [(.inr (nX37, [.int 0, .null, .null, .null, .null, .null]) : nd_C)]).set hu.length (.inr (nX37, [.int 0, .ref 0, .ref (hu.length + 1), .ref 0, .ref h.length, .ref 0])) ++ [.inl (0, 5, .inl (fun _ => 0))] = h1
    have e1 : h1[hu.length]? = some (.inr (nX37, [.int (nI 0), .ref 0, .ref (hu.length + 1), .ref 0, .ref h.length, .ref 0])) := by
      rw [← hh1]; exact l_get_app (by simp)
    have e2 : h1[hu.length + 1]? = some (.inl (0, 5, .inl (fun _ => 0))) := by
      rw [← hh1, List.getElem?_append_right (by simp)]; simp
    have f1 : cw_f hu h1 := by
      rw [← hh1]
      exact (cw_f.app (cw_f.set (cw_f.app cw_f.rfl) (Or.inl (Nat.le_refl _))))
    have hs1 : cw_S h1 := by
      rw [← hh1]
      exact cw_S.app (cw_S.set hsu.app (by omega))
    obtain ⟨cf0, hcf0⟩ := id hs1.2.2.2
    have hdl := df_le (m := m) hm5 (cr_l0_ok hS false) hn
    generalize hLL : (df m [] (cr_l0 (sy_N S) (sy_c S) false)).foldl (uk_see (sy_better S) (fun x => lN (cd_all x.2 x.2.length))) [] = LL
    have hLlen : LL.length ≤ 27925 := by
      rw [← hLL]; exact Nat.le_trans (uk_len _ _ _) hdl
    refine nd_astore_n hC dX1_better_18 (Nat.le_of_ble_eq_true rfl) rfl ?_
    refine nd_aload_n hC dX1_better_19 rfl rfl ?_
    refine nd_iconst hC (v := nI 0) (by rfl) dX1_better_20 ?_
    refine nd_iload_n hC dX1_better_21 rfl ?_
    refine nd_callU (mm2 := mX20_seeks) (As := [_, _]) (mc2 := 0) (ms2 := 0) (d2 := d - 1) (owner := "NapkinDeeds$Rows") (x := ⟨"NapkinDeeds$Unlike", "seeks", "(ZI)LNapkinDeeds$Rows;"⟩) (n := 2) hC rfl (va_cwU 2 hC.hts (lw_U q1085 q1086 q1088 q812 q190 q813) rfl rfl rfl rfl ⟨by decide, by decide, by decide +kernel⟩ (nd_roomR (by omega) (by decide))) (e1) rfl (Nat.le_of_ble_eq_true rfl) (by omega) rfl (by exact Nat.le_of_ble_eq_true rfl) (by omega) (by omega) dX1_better_22 rfl ((cw_seek (fl := false) (most := m) (d0 := 930) (b := hu.length) (rb := hu.length + 1) (ci := nX37) (σ := List Int64) (s0 := []) (see := uk_see (sy_better S) (fun x => lN (cd_all x.2 x.2.length))) (Bd := fun s => s.length < 28000) (Ob := fun s h2 => h2[hu.length]? = some (.inr (nX37, [.int (nI s.length), .ref 0, .ref (hu.length + 1), .ref 0, .ref h.length, .ref 0])) ∧ (∃ f, h2[hu.length + 1]? = some (.inl (0, 5, .inl f))) ∧ ∃ cf, h2[100]? = some (.inl (1, 28000, .inr (.inl cf))) ∧ ∀ i, i < s.length → cf i = s.getD i 0) hg (by omega) (by omega) hm5 hS hKu hlu hs1 f1 (by omega) (by omega) ?_ ?_ ?_ ⟨e1, ⟨_, e2⟩, cf0, hcf0, fun i hi => absurd hi (Nat.not_lt_zero _)⟩ ?_ (fun h2 H hs2 f2 hl2 => ?_)))
    · exact fun s h2 H => ⟨⟨2, _, Or.inr (Or.inr (Or.inr (Or.inr (Or.inr (Or.inr (Or.inl ⟨rfl, rfl⟩)))))), H.1, rfl, rfl⟩, H.2.1⟩
    · intro s h2 h3 H hl hf hr
      obtain ⟨H1, H2, cf, H3, H4⟩ := H
      exact ⟨(hf _ (by omega) (by omega)).trans H1, hr, cf, (hf _ (by omega) (by omega)).trans H3, H4⟩
    · intro d2 hd2 s r l h2 K2 hB H hs2 f2 hl hokl hrw hr5 kk
      obtain ⟨H1, ⟨rf, H2⟩, cf, H3, H4⟩ := H
      have hK2 := hKu.f f2
      have hfq : ∀ h3, ck_fr 94 1 h2 h3 → cw_f hu h3 := fun h3 q => f2.trans (q.cwf (fun a a1 a2 => by unfold cw_sc; omega))
      refine Or.inr (Or.inl ⟨nX37, _, Or.inr (Or.inr (Or.inr (Or.inr rfl))), H1, cu_seesX37 (Q := fun h3 => ck_fr 94 1 h2 h3 ∧ cw_S h3) (v := (sy_better S) (r, l)) (cd := (fun x => lN (cd_all x.2 x.2.length)) (r, l)) (cf := cf) hg (by omega) H1 (by omega) (fun K3 kq => ?_) (fun h3 q => ?_) (fun hv h3 K3 q kq => ?_) (fun hv => hB) (fun hv h3 q => ?_) (fun hv h3 q => ?_)⟩)
      · have hn2 : h2[h.length]? = some (.inl (0, (nk_w (sy_N S)).length, .inl nf)) := f2.2 _ _ hnz (cw_hi (by omega))
        refine cq_soX37 hg (by omega) (hK2.P hs2) hsv hS.1.1 hl (by omega) hokl H1 (by omega) (by omega) hn2 (fun h3 f3 hP3 => ?_)
        rw [better_congr (f2 := sy_likes S) hnf]
        exact kq h3 ⟨f3, hP3.S hs2 (fun a ha => f3.2 a (by omega))⟩
      · obtain ⟨⟨x9, hO9⟩, -⟩ := id (hKu.f (hfq h3 q.1))
        exact ⟨q.1.2 _ (by omega), ⟨_, _, _, _, hO9⟩, (q.1.2 100 (by omega)).trans H3⟩
      · exact cq_codeX23 hg (by omega) (hl.fr q.1 (by omega)) hokl hn kq
      · refine kk h3 ?_ q.2 (hfq h3 q.1) q.1.1 (fun a ha => q.1.2 a (by omega))
        have es : uk_see (sy_better S) (fun x => lN (cd_all x.2 x.2.length)) s (r, l) = s := by unfold uk_see; rw [if_neg (by rw [hv]; decide)]
        rw [es]
        exact ⟨(q.1.2 _ (by omega)).trans H1, ⟨rf, (q.1.2 _ (by omega)).trans H2⟩, cf, (q.1.2 _ (by omega)).trans H3, H4⟩
      · have es : uk_see (sy_better S) (fun x => lN (cd_all x.2 x.2.length)) s (r, l) = s ++ [(fun x => lN (cd_all x.2 x.2.length)) (r, l)] := by unfold uk_see; rw [if_pos hv]
        have hbl : hu.length < (h3.set 100 (.inl (1, 28000, .inr (.inl (vp_updL cf s.length ((fun x => lN (cd_all x.2 x.2.length)) (r, l))))))).length := by
          rw [List.length_set, q.1.1]; exact nd_get_lt H1
        have h100 : 100 < h3.length := by rw [q.1.1]; exact nd_get_lt H3
        refine kk _ ?_ (q.2.c100.set (by omega)) (((hfq h3 q.1).set (Or.inr (by unfold cw_sc; omega))).set (Or.inl (by omega))) (by rw [List.length_set, List.length_set]; exact q.1.1) (fun a ha => by rw [List.getElem?_set_ne (by omega), List.getElem?_set_ne (by omega)]; exact q.1.2 a (by omega))
        rw [es, List.length_append]
        refine ⟨List.getElem?_set_self hbl, ⟨rf, ?_⟩, vp_updL cf s.length ((fun x => lN (cd_all x.2 x.2.length)) (r, l)), ?_, fun i hi => ?_⟩
        · rw [List.getElem?_set_ne (by omega), List.getElem?_set_ne (by omega)]; exact (q.1.2 _ (by omega)).trans H2
        · rw [List.getElem?_set_ne (by omega)]; exact List.getElem?_set_self h100
        · by_cases z : i = s.length
          · subst z; rw [uL_s]; simp
          · have hi2 : i < s.length := by
              have h9 : i < s.length + 1 := hi
              omega
            rw [uL_n z, H4 i hi2, List.getD_eq_getElem?_getD, List.getD_eq_getElem?_getD, List.getElem?_append_left hi2]
    · refine df_B_n _ List.length 28000 (fun s x => ?_) _ [] ?_
      · unfold uk_see
        split
        · rw [List.length_append]; exact Nat.le_refl _
        · omega
      · show 0 + _ ≤ 28000
        omega
    · rw [hLL] at H
      obtain ⟨H1, H2, cf, H3, H4⟩ := H
      have hK2 := hKu.f f2
      obtain ⟨⟨x9, hO9⟩, -⟩ := id hK2
      have h100 := nd_get_lt H3
      refine nd_pop hC (by rfl) dX1_better_25 ?_
      refine nd_aload_n hC dX1_better_26 rfl rfl ?_
      refine nd_callU (mm2 := mX23_unlike) (As := []) (mc2 := 1200) (ms2 := 80000) (d2 := d - 1) (owner := "NapkinDeeds$Unlike") (x := ⟨"NapkinDeeds$Unlike", "unlike", "()I"⟩) (n := 0) hC rfl (va_cwU 0 hC.hts (lw_U q1092 q1094 q1096 q1093 q193 q1100) rfl rfl rfl rfl ⟨by decide, by decide, by decide +kernel⟩ (nd_roomR (by omega) (by decide))) (H1) rfl (Nat.le_of_ble_eq_true rfl) (by omega) rfl (by exact Nat.le_of_ble_eq_true rfl) (by omega) (by omega) dX1_better_27 rfl ((cu_unlikeX37 (Q := fun fz hz => ∃ hx, so_e h2 hx 1200 80000 ∧ so_p 0 LL.length cf fz ∧ so_s 0 LL.length fz ∧ hz = hx.set 100 (.inl (1, 28000, .inr (.inl fz)))) hg (by omega) (by omega) H1 ⟨_, _, _, _, hO9⟩ (fun K3 kq => ?_) (fun fz hz q => ?_) (fun fz hz q => ?_)))
      · have M := so_arrays (K := K3) (A := 100) (n := 28000) (h := h2) (d := d - 1 - 1) (hi := LL.length) (f := cf) hg (Nat.le_refl _) h100 (by omega) (by omega) (fun hx fz a1 a2 a3 => kq fz _ ⟨hx, a1, a2, a3, rfl⟩)
        rw [l_set_id H3] at M
        exact M
      · obtain ⟨hx, a1, a2, a3, a4⟩ := q
        subst a4
        have hbl := nd_get_lt H1
        have h0l := nd_get_lt hO9
        exact ⟨(List.getElem?_set_ne (by omega)).trans (a1.1.2 _ hbl), (List.getElem?_set_ne (by omega)).trans (a1.1.2 _ h0l), List.getElem?_set_self (Nat.lt_of_lt_of_le h100 a1.le)⟩
      · obtain ⟨hx, a1, a2, a3, a4⟩ := q
        subst a4
        have ev : su_cnt fz LL.length = un_n (sy_better S) (fun x => lN (lk_code x.2 (sy_n S))) (lv_all m (cr_l0 (sy_N S) (sy_c S) false)) := uk_count (P := fun x => lk_ok (sy_n S) x.2) (c1 := fun x => lN (cd_all x.2 x.2.length)) (fun x y hx1 hy1 q1 q2 => cd_code hx1 hy1 hn) (fun x hx1 => (lv_all_ok (cr_l0_ok hS false) x hx1).1) (by rw [hLL]) (fun i hi => by rw [hLL]; exact H4 i hi) a2 a3
        rw [ev]
        refine nd_ireturn hC rfl (by first | rfl | exact nd_b_nar _) (by omega) (by omega) dX1_better_30 ((hk0 rfl _ ⟨(hs2.ext a1.1), o, nap, ds, gi, dss, ((hKu.f f2).f a1.1.cwf)⟩ ((fu.trans (f2.trans a1.1.cwf)).fr hl123)))
  · rw [if_neg (by rw [hc]; decide)] at hk1
    exact nd_out hC rfl (by omega) (by omega) (hk1 (Nat.succ_ne_zero _) _ _ ⟨hs.app, o, nap, ds, gi, dss, hK.f cw_f.rfl.app⟩ (cw_f.rfl.app.fr hl123))
theorem cp_refuse (hg : nd_OK g) (hd : 940 ≤ d) : cp_ok g mX1_refuse d 2 12 [] (ex1 eIAE) (mp_i (op_refuse)) := by
  intro S h K hS hI hl123 hk0 hk1
  obtain ⟨hs, o, nap, ds, gi, dss, hK⟩ := hI
  obtain ⟨⟨x0, hO⟩, h17, hkk, -⟩ := id hK
  unfold cx_O at hO
  have hok := sy_l_ok hS
  have hwd := lk_width hok
  have hn : sy_n S ≤ 6 := hS.1.1.1
  have h5 := sy_len5 hS
  obtain ⟨sfr, sbk, sfo, smn, hSt, hcv⟩ := id hkk.2.1
  obtain ⟨hSt1, hSt2, hSt3, hSt4⟩ := id hSt
  have hcv : cs_v sfr sbk sfo smn (sy_c S) := hcv
  have hsv : sv_ok (sy_n S) (sy_c S) := hS.1.2.1
  unfold mp_i op_refuse at hk0 hk1
  have hw4 : (nk_w (sy_N S)).length ≤ 4 := hS.1.1.2.2.1
  have hokf := lk_flat_ok (sy_n S)
  refine nd_enter hg (by decide) rfl (Nat.le_of_ble_eq_true rfl) (fun X hC => ?_)
  refine nd_iconst hC (v := nI 0) (by rfl) dX1_refuse_0 ?_
  refine nd_istore_n hC dX1_refuse_1 (Nat.le_of_ble_eq_true rfl) ?_
  refine nd_aload_n hC dX1_refuse_2 rfl rfl ?_
  refine nd_get (ci := nX1) hC in_X1 rfl hO 2 (by decide) q387 (fun _ z => z) rfl dX1_refuse_3 ?_
  refine nd_iconst hC (v := nI 0) (by rfl) dX1_refuse_6 ?_
  refine nd_aaloadN hC rfl rfl h17 (by omega) (by omega) dX1_refuse_7 ?_
  refine nd_aload_n hC dX1_refuse_8 rfl rfl ?_
  refine nd_callV (mm2 := mX1_cells) (As := []) (mc2 := 0) (ms2 := 0) (d2 := d - 1) hC rfl lkX1_214 ⟨rfl, lmX1_cells⟩ (hO) rfl (Nat.le_of_ble_eq_true rfl) (by omega) rfl (by exact Nat.le_of_ble_eq_true rfl) (by omega) (by omega) dX1_refuse_9 rfl ((cx_cells hg (by omega) (hK.P hs) ?_))
  obtain ⟨wq, hiq, coq, hLq⟩ := id (hs.1 0 (by omega))
  refine nd_callV (mm2 := mX4_flat) (As := [_]) (mc2 := 0) (ms2 := 0) (d2 := d - 1) hC rfl lkX1_485 ⟨rfl, lmX4_flat⟩ (hLq.1) rfl (Nat.le_of_ble_eq_true rfl) (by omega) rfl (by exact Nat.le_of_ble_eq_true rfl) (by omega) (by omega) dX1_refuse_12 rfl ((cl_flat hg (hs.1 0 (by omega)) hn (fun h2 f2 hl2 => ?_)))
  have f2' : cw_f h h2 := f2.cwf (fun a a1 a2 => by unfold cw_sc; omega)
  have hs2 : cw_S h2 := by
    obtain ⟨b1, ⟨tl, b2⟩, ⟨n2, fr, bk, fo, mn, c1, c2, c3, c4⟩, ⟨cf0, c5⟩⟩ := hs
    refine ⟨fun k hk => ?_, ⟨tl, (f2.2 _ (by omega)).trans b2⟩, ⟨n2, fr, bk, fo, mn, (f2.2 _ (by omega)).trans c1, (f2.2 _ (by omega)).trans c2, (f2.2 _ (by omega)).trans c3, (f2.2 _ (by omega)).trans c4⟩, ⟨cf0, (f2.2 _ (by omega)).trans c5⟩⟩
    by_cases z : k = 0
    · subst z; exact hl2.any
    · exact (b1 k hk).fr f2 (by omega)
  refine nd_astore_n hC dX1_refuse_15 (Nat.le_of_ble_eq_true rfl) rfl ?_
  refine nd_iconst hC (v := nI 0) (by rfl) dX1_refuse_16 ?_
  refine nd_istore_n hC dX1_refuse_17 (Nat.le_of_ble_eq_true rfl) ?_
  have L : ∀ k, k ≤ (nk_w (sy_N S)).length → ∀ h2, cw_f h h2 → cw_S h2 → ck_lk h2 18 (lk_flat (sy_n S)) → nd_W g mX1_refuse d 2 12 K X 18 [some (.ref 0), some (.int (rf_go S k)), some (.ref 18), some (.int (nI k))] [] h2 (0 + 0 + 0) (0 + 0 + 0) := by
    refine nd_for _ _ ?_ ?_
    · intro h2 f2 hs2 hlf
      have hK2 := hK.f f2
      obtain ⟨⟨x2, hO2⟩, -⟩ := id hK2
      unfold cx_O at hO2
      refine nd_iload_n hC dX1_refuse_18 rfl ?_
      refine nd_aload_n hC dX1_refuse_19 rfl rfl ?_
      refine nd_callV (mm2 := mX1_guests) (As := []) (mc2 := 0) (ms2 := 0) (d2 := d - 1) hC rfl lkX1_280 ⟨rfl, lmX1_guests⟩ (hO2) rfl (Nat.le_of_ble_eq_true rfl) (by omega) rfl (by exact Nat.le_of_ble_eq_true rfl) (by omega) (by omega) dX1_refuse_20 rfl ((cx_guests hg (by omega) (hK2.P hs2) ?_))
      first | with_reducible refine nd_icmp_geN hC (tgt := 68) (by omega) (by omega) dX1_refuse_23 (by decide) (fun hc => ?_) (fun hc => ?_) | refine nd_icmp_ge hC (tgt := 68) dX1_refuse_23 (by decide) (fun hc => ?_) (fun hc => ?_)
      · refine nd_iload_n hC dX1_refuse_68 rfl ?_
        refine nd_ireturn hC rfl (by first | rfl | exact nd_b_nar _) (by omega) (by omega) dX1_refuse_69 ((hk0 rfl h2 ⟨hs2, o, nap, ds, gi, dss, hK2⟩ (f2.fr hl123)))
      · omega
    · intro k hk1' ih h2 f2 hs2 hlf
      have hK2 := hK.f f2
      obtain ⟨⟨x2, hO2⟩, -⟩ := id hK2
      unfold cx_O at hO2
      refine nd_iload_n hC dX1_refuse_18 rfl ?_
      refine nd_aload_n hC dX1_refuse_19 rfl rfl ?_
      refine nd_callV (mm2 := mX1_guests) (As := []) (mc2 := 0) (ms2 := 0) (d2 := d - 1) hC rfl lkX1_280 ⟨rfl, lmX1_guests⟩ (hO2) rfl (Nat.le_of_ble_eq_true rfl) (by omega) rfl (by exact Nat.le_of_ble_eq_true rfl) (by omega) (by omega) dX1_refuse_20 rfl ((cx_guests hg (by omega) (hK2.P hs2) ?_))
      first | with_reducible refine nd_icmp_geN hC (tgt := 68) (by omega) (by omega) dX1_refuse_23 (by decide) (fun hc => ?_) (fun hc => ?_) | refine nd_icmp_ge hC (tgt := 68) dX1_refuse_23 (by decide) (fun hc => ?_) (fun hc => ?_)
      · omega
      refine nd_iload_n hC dX1_refuse_26 rfl ?_
      refine nd_aload_n hC dX1_refuse_27 rfl rfl ?_
      refine nd_iload_n hC dX1_refuse_28 rfl ?_
      refine nd_aload_n hC dX1_refuse_29 rfl rfl ?_
      refine nd_callV (mm2 := mX1_now) (As := []) (mc2 := 0) (ms2 := 0) (d2 := d - 1) hC rfl lkX1_161 ⟨rfl, lmX1_now⟩ (hO2) rfl (Nat.le_of_ble_eq_true rfl) (by omega) rfl (by exact Nat.le_of_ble_eq_true rfl) (by omega) (by omega) dX1_refuse_30 rfl ((cx_now hg (by omega) (hK2.P hs2) hn hsv.1 (fun h3 R hR f3 hl3 hP3 => ?_)))
      have f3' : cw_f h2 h3 := f3.cwf (fun a a1 a2 => by unfold cw_sc; omega)
      have hs3 := hP3.S hs2 (fun a ha => f3.2 a (by omega))
      have hK3 := hK2.f f3'
      obtain ⟨⟨x3, hO3⟩, -, hkk3, -⟩ := id hK3
      unfold cx_O at hO3
      obtain ⟨sfr3, sbk3, sfo3, smn3, hS3, hcv3⟩ := id hkk3.2.1
      have hS31 := hS3.1
      have cv1 : smn3 = nI (sy_c S).1.length := hcv3.1
      subst cv1
      refine nd_aload_n hC dX1_refuse_33 rfl rfl ?_
      refine nd_get (ci := nX1) hC in_X1 rfl hO3 0 (by decide) q384 (fun _ z => z) rfl dX1_refuse_34 ?_
      refine nd_getN (ci := nX2) hC in_X2 rfl hS31 4 (by decide) q310 (fun _ z => z) rfl dX1_refuse_37 ?_
      refine nd_callV (mm2 := mX1_likes) (As := [_, _, _]) (mc2 := 0) (ms2 := 0) (d2 := d - 1) hC rfl lkX1_282 ⟨rfl, lmX1_likes⟩ (hO3) rfl (Nat.le_of_ble_eq_true rfl) (by omega) rfl (by exact Nat.le_of_ble_eq_true rfl) (by omega) (by omega) dX1_refuse_40 rfl ((cw_likes hg (by omega) hS hs3 hK3 hl3 (by omega) hok (show k < (nk_w (sy_N S)).length by omega) (fun h4 f4 f4' hs4 => ?_)))
      have hK4 := hK3.f f4'
      obtain ⟨⟨x4, hO4⟩, -⟩ := id hK4
      unfold cx_O at hO4
      have hlf4 := (hlf.fr f3 (by omega)).fr f4 (by omega)
      refine nd_aload_n hC dX1_refuse_43 rfl rfl ?_
      refine nd_iload_n hC dX1_refuse_44 rfl ?_
      refine nd_aload_n hC dX1_refuse_45 rfl rfl ?_
      refine nd_iconst hC (v := nI 0) (by rfl) dX1_refuse_46 ?_
      refine nd_callV (mm2 := mX1_likes) (As := [_, _, _]) (mc2 := 0) (ms2 := 0) (d2 := d - 1) hC rfl lkX1_282 ⟨rfl, lmX1_likes⟩ (hO4) rfl (Nat.le_of_ble_eq_true rfl) (by omega) rfl (by exact Nat.le_of_ble_eq_true rfl) (by omega) (by omega) dX1_refuse_47 rfl ((cw_likes hg (by omega) hS hs4 hK4 hlf4 (by omega) hokf (show k < (nk_w (sy_N S)).length by omega) (fun h5 f5 f5' hs5 => ?_)))
      have hlf5 := hlf4.fr f5 (by omega)
      have F := f2.trans (f3'.trans (f4'.trans f5'))
      refine nd_icmp_ge hC (tgt := 59) dX1_refuse_50 (by decide) (fun hq => ?_) (fun hq => ?_)
      · refine nd_iconst hC (v := nI 0) (by rfl) dX1_refuse_59 ?_
        refine nd_ior hC dX1_refuse_60 ?_
        refine nd_istore_n hC dX1_refuse_61 (Nat.le_of_ble_eq_true rfl) ?_
        first | with_reducible refine nd_iincN hC dX1_refuse_62 rfl (Nat.le_of_ble_eq_true rfl) ?_ | refine nd_iinc hC dX1_refuse_62 rfl rfl (Nat.le_of_ble_eq_true rfl) ?_
        refine nd_goto hC (tgt := 18) dX1_refuse_65 (by decide) ?_
        have e : rf_go S k ||| nI 0 = rf_go S (k + 1) := by show _ = rf_go S k ||| _; rw [if_pos (show sy_likesF S k ≤ sy_likes S k from hq)]
        rw [e]
        exact ih h5 F hs5 hlf5
      · refine nd_iconst hC (v := nI 1) (by rfl) dX1_refuse_53 ?_
        refine nd_iload_n hC dX1_refuse_54 rfl ?_
        refine nd_ishl hC dX1_refuse_55 ?_
        refine nd_goto hC (tgt := 60) dX1_refuse_56 (by decide) ?_
        refine nd_ior hC dX1_refuse_60 ?_
        refine nd_istore_n hC dX1_refuse_61 (Nat.le_of_ble_eq_true rfl) ?_
        first | with_reducible refine nd_iincN hC dX1_refuse_62 rfl (Nat.le_of_ble_eq_true rfl) ?_ | refine nd_iinc hC dX1_refuse_62 rfl rfl (Nat.le_of_ble_eq_true rfl) ?_
        refine nd_goto hC (tgt := 18) dX1_refuse_65 (by decide) ?_
        have e : rf_go S k ||| nI 1 <<< (nI k &&& 31) = rf_go S (k + 1) := by show _ = rf_go S k ||| _; rw [if_neg (show ¬ sy_likesF S k ≤ sy_likes S k from hq)]
        rw [e]
        exact ih h5 F hs5 hlf5
  exact L 0 (Nat.zero_le _) h2 f2' hs2 hl2
end CP41

