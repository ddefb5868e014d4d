set_option maxRecDepth 100000
/-! ===== judge ===== -/
section CP82
variable {g : nd_G} {d mc ms cs ss : Nat} {K : nd_K} {X : nd_X} {h : nd_H} {o : Nat → Nat} {nap : Nat} {ds : List Nat} {gi : Nat → Value} {dss : Nat → List Nat} {S : sy_S}
theorem cs_fr.sc9 {h h2 : nd_H} {nap : Nat} {s : sv} (f : cs_fr 9 h h2) (hs : cw_S h) (hst : cs_st h2 9 nap s) : cw_S h2 := by
  obtain ⟨b1, ⟨tl, b2⟩, -, ⟨cf, b3⟩⟩ := hs
  obtain ⟨fr, bk, fo, mn, e, -⟩ := hst
  exact ⟨fun k hk => (b1 k hk).fr f.ck (Or.inr (by omega)), ⟨tl, (f.2 _ (by omega)).trans b2⟩, ⟨nap, fr, bk, fo, mn, e⟩, ⟨cf, (f.2 _ (by omega)).trans b3⟩⟩
theorem cs_fr.cw9 {h h2 : nd_H} (f : cs_fr 9 h h2) : cw_f h h2 := f.ck.cwf (fun a h1 h2 => by unfold cw_sc; omega)
theorem cx_jd (hg : nd_OK g) (hC : nd_Cx g mX1_judge X) (hd : 8 ≤ d) {x y : Int32} {t : Nat} {q : Nat × List Int64} (hc : op_in x 0 3 = true) (ht : t < 4) (hx : x = nI t) (hq30 : q.2.length ≤ 30) (hS : sy_ok S) (hst : sy_t S t = some q) (hcs : cs ≤ mc) (hss : ss ≤ ms) : ∀ (vs : List Int64) (k : Nat) (s : sv) (h1 : nd_H), cw_S h1 → cw_K o nap ds gi dss S h1 → cw_f h h1 → cs_st h1 9 nap s → sv_ok (sy_n S) s → q.2.drop k = vs → k ≤ q.2.length → (∀ (h2 : nd_H) (w k2 : Nat) (s2 : sv), cw_S h2 → cw_K o nap ds gi dss S h2 → cw_f h h2 → cs_st h2 9 nap s2 → sv_ok (sy_n S) s2 → w ≤ 2 → k2 ≤ 30 → jd_go (sy_N S, s, sy_d S) vs k = (if w = 0 then -1 else nI k2, w, s2) → nd_W g mX1_judge d mc ms K X 92 [some (.ref 0), some (.int x), some (.int y), some (.ref (96 + t)), some (.int (nI w)), some (.int (nI k2))] [] h2 cs ss) → nd_W g mX1_judge d mc ms K X 39 [some (.ref 0), some (.int x), some (.int y), some (.ref (96 + t)), some (.int (nI 0)), some (.int (nI k))] [] h1 cs ss := by
  intro vs
  induction vs with
  | nil =>
    intro k s h1 hs hK hf hs9 hsv hdr hkq hk
    have hkl : k = q.2.length := by
      have := congrArg List.length hdr
      rw [List.length_drop] at this
      have : q.2.length - k = 0 := this
      omega
    rcases ty_cases hK hc ht hx with ⟨z, -⟩ | ⟨q2, b, z1, z2, z3, z4, z5, hT⟩
    · exfalso
      subst hx
      unfold ty_f at z
      rw [if_pos hc, nI_cl (by omega), hst] at z
      exact absurd z (show ¬ ((0 : Nat) = 2) by decide)
    rw [hst] at z4
    cases z4
    have R := hk h1 0 k s hs hK hf hs9 hsv (by omega) (by omega) rfl
    refine nd_iload hC dX1_judge_39 rfl ?_
    refine nd_aload_n hC dX1_judge_41 rfl rfl ?_
    refine nd_callV (mm2 := mX6_size) (As := []) (mc2 := 0) (ms2 := 0) (d2 := d - 1) hC rfl lkX1_340 ⟨rfl, lmX6_size⟩ (z5) rfl (Nat.le_of_ble_eq_true rfl) (by omega) rfl (by exact Nat.le_of_ble_eq_true rfl) (by omega) (by omega) dX1_judge_42 rfl ((ty_size hg hT hq30 ?_))
    first | with_reducible refine nd_icmp_geN hC (tgt := 92) (by omega) (by omega) dX1_judge_45 (by decide) (fun hq => ?_) (fun hq => ?_) | refine nd_icmp_ge hC (tgt := 92) dX1_judge_45 (by decide) (fun hq => ?_) (fun hq => ?_)
    · exact R
    · omega
  | cons v vs ih =>
    intro k s h1 hs hK hf hs9 hsv hdr hkq hk
    have hkl : k + (vs.length + 1) = q.2.length := by
      have := congrArg List.length hdr
      rw [List.length_drop] at this
      have : q.2.length - k = vs.length + 1 := this
      omega
    have hv : q.2.getD k 0 = v := by
      rw [List.getD_eq_getElem?_getD, ← List.head?_drop, hdr]; rfl
    have hdr2 : q.2.drop (k + 1) = vs := by
      rw [← List.drop_drop, hdr]; rfl
    obtain ⟨⟨x0, hO⟩, -⟩ := id hK
    unfold cx_O at hO
    rcases ty_cases hK hc ht hx with ⟨z, -⟩ | ⟨q2, b, z1, z2, z3, z4, z5, hT⟩
    · exfalso
      subst hx
      unfold ty_f at z
      rw [if_pos hc, nI_cl (by omega), hst] at z
      exact absurd z (show ¬ ((0 : Nat) = 2) by decide)
    rw [hst] at z4
    cases z4
    refine nd_iload hC dX1_judge_39 rfl ?_
    refine nd_aload_n hC dX1_judge_41 rfl rfl ?_
    refine nd_callV (mm2 := mX6_size) (As := []) (mc2 := 0) (ms2 := 0) (d2 := d - 1) hC rfl lkX1_340 ⟨rfl, lmX6_size⟩ (z5) rfl (Nat.le_of_ble_eq_true rfl) (by omega) rfl (by exact Nat.le_of_ble_eq_true rfl) (by omega) (by omega) dX1_judge_42 rfl ((ty_size hg hT hq30 ?_))
    first | with_reducible refine nd_icmp_geN hC (tgt := 92) (by omega) (by omega) dX1_judge_45 (by decide) (fun hq => ?_) (fun hq => ?_) | refine nd_icmp_ge hC (tgt := 92) dX1_judge_45 (by decide) (fun hq => ?_) (fun hq => ?_)
    · omega
    refine nd_aload_n hC dX1_judge_48 rfl rfl ?_
    refine nd_aload_n hC dX1_judge_49 rfl rfl ?_
    refine nd_get (ci := nX1) hC in_X1 rfl hO 1 (by decide) q385 (fun _ z => z) rfl dX1_judge_50 ?_
    refine nd_aload_n hC dX1_judge_53 rfl rfl ?_
    refine nd_iload hC dX1_judge_54 rfl ?_
    refine nd_callV (mm2 := mX6_at) (As := [_]) (mc2 := 0) (ms2 := 0) (d2 := d - 1) hC rfl lkX1_341 ⟨rfl, lmX6_at⟩ (z5) rfl (Nat.le_of_ble_eq_true rfl) (by omega) rfl (by exact Nat.le_of_ble_eq_true rfl) (by omega) (by omega) dX1_judge_56 rfl ((ty_get hg hT hq30 (by omega) ?_))
    rw [hv]
    refine nd_callV (mm2 := mX1_whyNot) (As := [_, _]) (mc2 := 0) (ms2 := 0) (d2 := d - 1) hC rfl lkX1_344 ⟨rfl, lmX1_whyNot⟩ (hO) rfl (Nat.le_of_ble_eq_true rfl) (by omega) rfl (by exact Nat.le_of_ble_eq_true rfl) (by omega) (by omega) dX1_judge_59 rfl ((cx_whyNot (dd := sy_d S) hg (by omega) hS hs hK (Or.inr rfl) hs9 hsv v ?_))
    intro h2 f2 fw hs2 hK2
    have hs92 : cs_st h2 9 nap s := hs9.fr f2 (by omega)
    have ep : jd_go (sy_N S, s, sy_d S) (v :: vs) k = if dd_why (sy_N S, s, sy_d S) v.toInt = 0 then jd_go (sy_N S, dd_do s v.toInt, sy_d S) vs (k + 1) else (nI k, dd_why (sy_N S, s, sy_d S) v.toInt, s) := rfl
    rw [ep] at hk
    have hle := dd_why_le (sy_N S, s, sy_d S) v.toInt
    refine nd_istore hC dX1_judge_62 (Nat.le_of_ble_eq_true rfl) ?_
    refine nd_iload hC dX1_judge_64 rfl ?_
    by_cases hw : dd_why (sy_N S, s, sy_d S) v.toInt = 0
    rotate_left
    · rw [if_neg hw] at hk
      first | with_reducible refine nd_if_eqB hC (tgt := 72) dX1_judge_66 (by decide) (fun hq3 => ?_) (fun hq3 => ?_) | with_reducible refine nd_if_eqN hC (tgt := 72) (by omega) dX1_judge_66 (by decide) (fun hq3 => ?_) (fun hq3 => ?_) | refine nd_if_eq hC (tgt := 72) dX1_judge_66 (by decide) (fun hq3 => ?_) (fun hq3 => ?_)
      · exact absurd hq3 hw
      · refine nd_goto hC (tgt := 92) dX1_judge_69 (by decide) ?_
        exact hk h2 _ k s hs2 hK2 (hf.trans fw) hs92 hsv hle (by omega) (by rw [if_neg hw])
    rw [if_pos hw] at hk
    have hP : sp_ok (sy_N S, s, sy_d S) := ⟨hS.1.1, hsv, hS.1.2.2.1, hS.1.2.2.2⟩
    first | with_reducible refine nd_if_eqB hC (tgt := 72) dX1_judge_66 (by decide) (fun hq3 => ?_) (fun hq3 => ?_) | with_reducible refine nd_if_eqN hC (tgt := 72) (by omega) dX1_judge_66 (by decide) (fun hq3 => ?_) (fun hq3 => ?_) | refine nd_if_eq hC (tgt := 72) dX1_judge_66 (by decide) (fun hq3 => ?_) (fun hq3 => ?_)
    rotate_left
    · exact absurd hw hq3
    rw [hw]
    rcases ty_cases hK2 hc ht hx with ⟨z, -⟩ | ⟨q2, b2, y1, y2, y3, y4, y5, hT2⟩
    · rw [z1] at z
      cases z
    rw [hst] at y4
    cases y4
    obtain ⟨⟨x2, hO2⟩, -⟩ := id hK2
    unfold cx_O at hO2
    refine nd_aload_n hC dX1_judge_72 rfl rfl ?_
    refine nd_get (ci := nX1) hC in_X1 rfl hO2 1 (by decide) q385 (fun _ z => z) rfl dX1_judge_73 ?_
    refine nd_aload_n hC dX1_judge_76 rfl rfl ?_
    refine nd_iload hC dX1_judge_77 rfl ?_
    refine nd_callV (mm2 := mX6_at) (As := [_]) (mc2 := 0) (ms2 := 0) (d2 := d - 1) hC rfl lkX1_341 ⟨rfl, lmX6_at⟩ (y5) rfl (Nat.le_of_ble_eq_true rfl) (by omega) rfl (by exact Nat.le_of_ble_eq_true rfl) (by omega) (by omega) dX1_judge_79 rfl ((ty_get hg hT2 hq30 (by omega) ?_))
    rw [hv]
    first | with_reducible refine nd_l2iN hC dX1_judge_82 ?_ | refine nd_l2i hC dX1_judge_82 ?_
    refine nd_callS (mm2 := mX1_does) (As := [_, _]) (mc2 := 0) (ms2 := 0) (d2 := d - 1) hC rfl lkX1_348 lmX1_does (Nat.le_of_ble_eq_true rfl) (by omega) rfl (by exact Nat.le_of_ble_eq_true rfl) (by omega) (by omega) dX1_judge_83 rfl ((cs_does (P := (sy_N S, s, sy_d S)) (z := v.toInt) hg (by omega) (l2i_small (dd_why_rng hw)) hs92 hP hw ?_))
    intro h3 f3 s3
    first | with_reducible refine nd_iincN hC dX1_judge_86 rfl (Nat.le_of_ble_eq_true rfl) ?_ | refine nd_iinc hC dX1_judge_86 rfl rfl (Nat.le_of_ble_eq_true rfl) ?_
    refine nd_goto hC (tgt := 39) dX1_judge_89 (by decide) ?_
    exact ih (k + 1) (dd_do s v.toInt) h3 (f3.sc9 hs2 s3) (hK2.f f3.cw9) ((hf.trans fw).trans f3.cw9) s3 (dd_ok hP hw) hdr2 (by omega) hk
theorem cp_judge (hg : nd_OK g) (hd : 10 ≤ d) (x y : Int32) : cp_ok g mX1_judge d 3 18 [.int x, .int y] (ex3 eNSE eISE eIAE) (mp_i (op_judge x y)) := by
  intro S h K hS hI hl123 hk0 hk1
  obtain ⟨hs, o, nap, ds, gi, dss, hK⟩ := hI
  obtain ⟨⟨x0, hO⟩, h17, hkk, -⟩ := id hK
  unfold cx_O at hO
  have hok := sy_l_ok hS
  have hwd := lk_width hok
  have hn : sy_n S ≤ 6 := hS.1.1.1
  have h5 := sy_len5 hS
  obtain ⟨sfr, sbk, sfo, smn, hSt, hcv⟩ := id hkk.2.1
  obtain ⟨hSt1, hSt2, hSt3, hSt4⟩ := id hSt
  have hcv : cs_v sfr sbk sfo smn (sy_c S) := hcv
  have hsv : sv_ok (sy_n S) (sy_c S) := hS.1.2.1
  unfold mp_i op_judge at hk0 hk1
  obtain ⟨n9, fr9, bk9, fo9, mn9, hT9⟩ := hs.2.2.1
  refine nd_enter hg (by decide) rfl (Nat.le_of_ble_eq_true rfl) (fun X hC => ?_)
  refine nd_aload_n hC dX1_judge_0 rfl rfl ?_
  refine nd_iload_n hC dX1_judge_1 rfl ?_
  refine nd_callV (mm2 := mX1_trayOf) (As := [_]) (mc2 := 1) (ms2 := 6) (d2 := d - 1) hC rfl lkX1_332 ⟨rfl, lmX1_trayOf⟩ (hO) rfl (Nat.le_of_ble_eq_true rfl) (by omega) rfl (by exact Nat.le_of_ble_eq_true rfl) (by omega) (by omega) dX1_judge_2 rfl ((cx_trayOf hg (by omega) hK (fun hc t ht hx => ?_) (fun hc n => ?_)))
  rotate_left
  · have e : jd_f x y S = 1 := by unfold jd_f; rw [ty_f1 hc]; rfl
    rw [e, if_neg (by decide)] at hk1
    exact nd_out hC rfl (by omega) (by omega) (hk1 (Nat.succ_ne_zero _) _ _ ⟨hs.app, o, nap, ds, gi, dss, hK.f cw_f.rfl.app⟩ (cw_f.rfl.app.fr hl123))
  rcases ty_cases hK hc ht hx with ⟨z, z2⟩ | ⟨q, b, z1, z2, z3, z4, z5, hT⟩
  · have e : jd_f x y S = 2 := by unfold jd_f; rw [z]; rfl
    rw [e, if_neg (by decide)] at hk1
    refine nd_astore_n hC dX1_judge_5 (Nat.le_of_ble_eq_true rfl) rfl ?_
    refine nd_aload_n hC dX1_judge_6 rfl rfl ?_
    refine nd_callS (mm2 := mX1_mustBe) (As := [_]) (mc2 := 1) (ms2 := 6) (d2 := d - 1) hC rfl lkX1_336 lmX1_mustBe (Nat.le_of_ble_eq_true rfl) (by omega) rfl (by exact Nat.le_of_ble_eq_true rfl) (by omega) (by omega) dX1_judge_7 rfl ((cx_mustBeN hg (by omega) z2 (fun n => ?_)))
    exact nd_out hC rfl (by omega) (by omega) (hk1 (Nat.succ_ne_zero _) _ _ ⟨hs.app, o, nap, ds, gi, dss, hK.f cw_f.rfl.app⟩ (cw_f.rfl.app.fr hl123))
  have hq30 := (hS.2.2.1 t ht q z4).2
  refine nd_astore_n hC dX1_judge_5 (Nat.le_of_ble_eq_true rfl) rfl ?_
  refine nd_aload_n hC dX1_judge_6 rfl rfl ?_
  refine nd_callS (mm2 := mX1_mustBe) (As := [_]) (mc2 := 1) (ms2 := 6) (d2 := d - 1) hC rfl lkX1_336 lmX1_mustBe (Nat.le_of_ble_eq_true rfl) (by omega) rfl (by exact Nat.le_of_ble_eq_true rfl) (by omega) (by omega) dX1_judge_7 rfl ((cx_mustBeR hg (by omega) z5 ?_))
  refine nd_iload_n hC dX1_judge_10 rfl ?_
  first | with_reducible refine nd_i2lN hC (by omega) dX1_judge_11 ?_ | refine nd_i2l hC dX1_judge_11 ?_
  refine nd_lconst hC (v := lN 0) (by rfl) dX1_judge_12 ?_
  refine nd_ldc2 hC q632 dX1_judge_13 ?_
  refine nd_v_eq (y := .long (lN 3)) (by rfl) ?_
  refine nd_callS (mm2 := mX1_isIn) (As := [_, _, _]) (mc2 := 0) (ms2 := 0) (d2 := d - 1) hC rfl lkX1_106 lmX1_isIn (Nat.le_of_ble_eq_true rfl) (by omega) rfl (by exact Nat.le_of_ble_eq_true rfl) (by omega) (by omega) dX1_judge_16 rfl ((ci_isIn hg ?_))
  have e : (decide (lN 0 ≤ y.toInt64) && decide (y.toInt64 ≤ lN 3)) = op_in y 0 3 := by
    unfold op_in
    rw [Bool.eq_iff_iff, Bool.and_eq_true, nd_lle, nd_lle, nd_tl, lN_toInt (by decide), lN_toInt (by decide), decide_eq_true_iff]
    omega
  rw [e]
  refine nd_callS (mm2 := mX1_needs) (As := [_]) (mc2 := 1) (ms2 := 6) (d2 := d - 1) hC rfl lkX1_110 lmX1_needs (Nat.le_of_ble_eq_true rfl) (by omega) rfl (by exact Nat.le_of_ble_eq_true rfl) (by omega) (by omega) dX1_judge_19 rfl ((ci_needs hg (fun hc2 => ?_) (fun hc2 n => ?_)))
  rotate_left
  · have e : jd_f x y S = 3 := by unfold jd_f; rw [z1, if_pos rfl, if_neg (by rw [hc2]; decide)]
    rw [e, if_neg (by decide)] at hk1
    exact nd_out hC rfl (by omega) (by omega) (hk1 (Nat.succ_ne_zero _) _ _ ⟨hs.app, o, nap, ds, gi, dss, hK.f cw_f.rfl.app⟩ (cw_f.rfl.app.fr hl123))
  have e : jd_f x y S = 0 := by unfold jd_f; rw [z1, if_pos rfl, if_pos hc2]
  rw [e, if_pos rfl, z2] at hk0
  obtain ⟨w0, hw0, rfl⟩ := op_in_nat hc2
  refine nd_aload_n hC dX1_judge_22 rfl rfl ?_
  refine nd_get (ci := nX1) hC in_X1 rfl hO 1 (by decide) q385 (fun _ z => z) rfl dX1_judge_23 ?_
  refine nd_aload_n hC dX1_judge_26 rfl rfl ?_
  refine nd_get (ci := nX1) hC in_X1 rfl hO 0 (by decide) q384 (fun _ z => z) rfl dX1_judge_27 ?_
  refine nd_callV (mm2 := mX2_become) (As := [_]) (mc2 := 0) (ms2 := 0) (d2 := d - 1) hC rfl lkX1_91 ⟨rfl, lmX2_become⟩ (hT9.1) rfl (Nat.le_of_ble_eq_true rfl) (by omega) rfl (by exact Nat.le_of_ble_eq_true rfl) (by omega) (by omega) dX1_judge_30 rfl ((cs_become hg hkk.2.1 hT9 (by omega) hsv hn ?_))
  intro h2 f2 s2
  have hs2 := f2.sc9 hs s2
  have hK2 := hK.f f2.cw9
  refine nd_iconst hC (v := nI 0) (by rfl) dX1_judge_33 ?_
  refine nd_istore hC dX1_judge_34 (Nat.le_of_ble_eq_true rfl) ?_
  refine nd_iconst hC (v := nI 0) (by rfl) dX1_judge_36 ?_
  refine nd_istore hC dX1_judge_37 (Nat.le_of_ble_eq_true rfl) ?_
  refine cx_jd hg hC (by omega) hc ht hx hq30 hS z4 (by omega) (by omega) q.2 0 (sy_c S) h2 hs2 hK2 f2.cw9 s2 hsv rfl (Nat.zero_le _) (fun h3 w k2 s3 hs3 hK3 f3 s93 hsv3 hw2 hk30 ej => ?_)
  have ej : jd_go (sy_p S) q.2 0 = (if w = 0 then -1 else nI k2, w, s3) := ej
  rw [ej] at hk0
  obtain ⟨⟨x3, hO3⟩, h173, -, -, -, -, -, -, -, -, a12⟩ := id hK3
  have hkk3 := hK3.2.2.1
  unfold cx_O at hO3
  obtain ⟨fr3, bk3, fo3, mn3, hT3, hv3, -⟩ := id s93
  subst hv3
  have h31 := hT3.1
  have R0 := hk0 rfl h3 ⟨hs3, o, nap, ds, gi, dss, hK3⟩ (f3.fr hl123)
  refine nd_iload_n hC dX1_judge_92 rfl ?_
  first | with_reducible refine nd_if_neB hC (tgt := 110) dX1_judge_93 (by decide) (fun hq => ?_) (fun hq => ?_) | with_reducible refine nd_if_neN hC (tgt := 110) (by omega) dX1_judge_93 (by decide) (fun hq => ?_) (fun hq => ?_) | refine nd_if_ne hC (tgt := 110) dX1_judge_93 (by decide) (fun hq => ?_) (fun hq => ?_)
  · have hy0 : ¬ (nI w0 = 0) := fun z => hq (by have := congrArg Int32.toInt z; rw [nI_toInt (by omega), Int32.toInt_zero] at this; omega)
    rw [if_neg hy0] at hk0 R0
    have hw00 : w0 ≠ 0 := fun z => hy0 (by rw [z]; rfl)
    refine nd_iload_n hC dX1_judge_110 rfl ?_
    refine nd_iconst hC (v := nI 1) (by rfl) dX1_judge_111 ?_
    first | with_reducible refine nd_icmp_neN hC (tgt := 120) (by omega) (by omega) dX1_judge_112 (by decide) (fun hq1 => ?_) (fun hq1 => ?_) | refine nd_icmp_ne hC (tgt := 120) dX1_judge_112 (by decide) (fun hq1 => ?_) (fun hq1 => ?_)
    · have hy1 : ¬ (nI w0 = nI 1) := fun z => hq1 (by have := congrArg Int32.toInt z; rw [nI_toInt (by omega), nI_toInt (by omega)] at this; omega)
      rw [if_neg hy1] at hk0 R0
      refine nd_iload_n hC dX1_judge_120 rfl ?_
      refine nd_iconst hC (v := nI 2) (by rfl) dX1_judge_121 ?_
      first | with_reducible refine nd_icmp_neN hC (tgt := 152) (by omega) (by omega) dX1_judge_122 (by decide) (fun hq2 => ?_) (fun hq2 => ?_) | refine nd_icmp_ne hC (tgt := 152) dX1_judge_122 (by decide) (fun hq2 => ?_) (fun hq2 => ?_)
      · have hy2 : ¬ (nI w0 = nI 2) := fun z => hq2 (by have := congrArg Int32.toInt z; rw [nI_toInt (by omega), nI_toInt (by omega)] at this; omega)
        rw [if_neg hy2] at R0
        refine nd_aload_n hC dX1_judge_152 rfl rfl ?_
        refine nd_get (ci := nX1) hC in_X1 rfl hO3 1 (by decide) q385 (fun _ z => z) rfl dX1_judge_153 ?_
        refine nd_getN (ci := nX2) hC in_X2 rfl h31 4 (by decide) q310 (fun _ z => z) rfl dX1_judge_156 ?_
        refine nd_ireturn hC rfl (by first | rfl | exact nd_b_nar _) (by omega) (by omega) dX1_judge_159 (R0)
      · have hy2 : nI w0 = nI 2 := by rw [show w0 = 2 by omega]
        rw [if_pos hy2] at hk0
        refine nd_aload_n hC dX1_judge_125 rfl rfl ?_
        refine nd_get (ci := nX1) hC in_X1 rfl hO3 1 (by decide) q385 (fun _ z => z) rfl dX1_judge_126 ?_
        refine nd_aload_n hC dX1_judge_129 rfl rfl ?_
        refine nd_get (ci := nX1) hC in_X1 rfl hO3 2 (by decide) q387 (fun _ z => z) rfl dX1_judge_130 ?_
        refine nd_bipush hC (v := nI 6) (by rfl) dX1_judge_133 ?_
        refine nd_aaloadN hC rfl rfl h173 (by omega) (by omega) dX1_judge_135 ?_
        refine nd_aload_n hC dX1_judge_136 rfl rfl ?_
        refine nd_get (ci := nX1) hC in_X1 rfl hO3 2 (by decide) q387 (fun _ z => z) rfl dX1_judge_137 ?_
        refine nd_bipush hC (v := nI 7) (by rfl) dX1_judge_140 ?_
        refine nd_aaloadN hC rfl rfl h173 (by omega) (by omega) dX1_judge_142 ?_
        have a3 := hs3.1
        have hok3 := lk_run_ok _ (lk_flat_ok (sy_n S)) hsv3.1
        refine nd_callV (mm2 := mX2_lies) (As := [_, _]) (mc2 := 0) (ms2 := 0) (d2 := d - 1) hC rfl lkX1_157 ⟨rfl, lmX2_lies⟩ (h31) rfl (Nat.le_of_ble_eq_true rfl) (by omega) rfl (by exact Nat.le_of_ble_eq_true rfl) (by omega) (by omega) dX1_judge_143 rfl ((cs_lies (A := 72) hg (by omega) s93 hkk3.1.c hn hsv3.1 (a3 6 (by omega)) (a3 7 (by omega)) (by omega) (fun a ha => by have := a12 a (by omega); omega) (fun h4 R hR f4 hl q1 q2 => ?_)))
        have f5 : cw_f h3 h4 := f4.cwf (fun a h1 h2 => by unfold cw_sc; omega)
        have hs4 : cw_S h4 := by
          refine ⟨fun k hk => ?_, ?_, ?_, ?_⟩
          · by_cases e6 : k = 6
            · subst e6; exact q1
            · by_cases e7 : k = 7
              · subst e7; exact q2
              · exact (a3 k hk).fr f4 (by omega)
          · obtain ⟨tl, e⟩ := hs3.2.1
            exact ⟨tl, (f4.2 _ (by omega)).trans e⟩
          · obtain ⟨n2, fr, bk, fo, mn, e⟩ := hs3.2.2.1
            exact ⟨n2, fr, bk, fo, mn, e.fr f4 (by omega)⟩
          · obtain ⟨cf, e⟩ := hs3.2.2.2
            exact ⟨cf, (f4.2 _ (by omega)).trans e⟩
        have hl : ck_lk h4 R (lk_run (lk_flat (sy_n S)) s3.1) := hl
        obtain ⟨w4, hi4, co4, hL4, hw4, hcl4⟩ := id hl
        subst hw4
        have h41 := hL4.1
        refine nd_getN (ci := nX4) hC in_X4 rfl h41 2 (by decide) q344 (fun _ z => z) rfl dX1_judge_146 ?_
        refine nd_goto hC (tgt := 159) dX1_judge_149 (by decide) ?_
        refine nd_ireturn hC rfl (by first | rfl | exact nd_b_nar _) (by omega) (by omega) dX1_judge_159 ((hk0 rfl h4 ⟨hs4, o, nap, ds, gi, dss, hK3.f f5⟩ ((f3.trans f5).fr hl123)))
    · have hy1 : nI w0 = nI 1 := by rw [show w0 = 1 by omega]
      rw [if_pos hy1] at R0
      refine nd_iload hC dX1_judge_115 rfl ?_
      refine nd_goto hC (tgt := 159) dX1_judge_117 (by decide) ?_
      refine nd_ireturn hC rfl (by first | rfl | exact nd_b_nar _) (by omega) (by omega) dX1_judge_159 (R0)
  · have hy0 : nI w0 = 0 := by rw [hq]; rfl
    rw [if_pos hy0] at R0
    refine nd_iload hC dX1_judge_96 rfl ?_
    first | with_reducible refine nd_if_neB hC (tgt := 105) dX1_judge_98 (by decide) (fun hq1 => ?_) (fun hq1 => ?_) | with_reducible refine nd_if_neN hC (tgt := 105) (by omega) dX1_judge_98 (by decide) (fun hq1 => ?_) (fun hq1 => ?_) | refine nd_if_ne hC (tgt := 105) dX1_judge_98 (by decide) (fun hq1 => ?_) (fun hq1 => ?_)
    · rw [if_neg (by omega)] at R0
      refine nd_iload hC dX1_judge_105 rfl ?_
      refine nd_goto hC (tgt := 159) dX1_judge_107 (by decide) ?_
      refine nd_ireturn hC rfl (by first | rfl | exact nd_b_nar _) (by omega) (by omega) dX1_judge_159 (R0)
    · rw [if_pos (by omega)] at R0
      refine nd_iconst hC (v := -1) (by rfl) dX1_judge_101 ?_
      refine nd_goto hC (tgt := 159) dX1_judge_102 (by decide) ?_
      refine nd_ireturn hC rfl (by first | rfl | exact nd_b_nar _) (by omega) (by omega) dX1_judge_159 (R0)
end CP82

