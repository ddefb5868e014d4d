set_option maxRecDepth 100000
/-! ===== the class's readers ===== -/
section CP31
variable {g : nd_G} {d : Nat} {K : nd_K} {h : nd_H} {o : Nat → Nat} {nap : Nat} {ds : List Nat} {gi : Nat → Value} {dss : Nat → List Nat} {S : sy_S}
theorem cw_now (hg : nd_OK g) (hd : 4 ≤ d) (hS : sy_ok S) (hs : cw_S h) (hK : cw_K o nap ds gi dss S h) (hk : ∀ h2 R, (R = 72 ∨ R = 81) → cw_f h h2 → cw_S h2 → cw_K o nap ds gi dss S h2 → ck_lk h2 R (sy_l S) → K (.inl (some (.ref R))) h2) : nd_M g mX1_now d 0 0 [.ref 0] h K :=
  cx_now hg hd (hK.P hs) hS.1.1.1 hS.1.2.1.1 (fun h2 R hR f hl hP => by
    have f2 : cw_f h h2 := f.cwf (fun a h1 h2 => by unfold cw_sc; omega)
    exact hk h2 R hR f2 (hP.S hs (fun a ha => f.2 a (by omega))) (hK.f f2) hl)
theorem cx_at (hg : nd_OK g) (hd : 5 ≤ d) (hS : sy_ok S) (hs : cw_S h) (hK : cw_K o nap ds gi dss S h) {x : Int32} (hk : op_in x 0 ((sy_l S).length - 1) = true → ∀ h2 R, (R = 72 ∨ R = 81) → cw_f h h2 → cw_S h2 → cw_K o nap ds gi dss S h2 → ck_lk h2 R (sy_l S) → K (.inl (some (.ref R))) h2) (he : op_in x 0 ((sy_l S).length - 1) = false → ∀ h2 k, cw_f h h2 → cw_S h2 → cw_K o nap ds gi dss S h2 → K (.inr (eNSE, k)) h2) : nd_M g mX1_at d 1 6 [.ref 0, .int x] h K := by
  obtain ⟨⟨x0, hO⟩, -⟩ := id hK
  unfold cx_O at hO
  have hwd := lk_width (sy_l_ok hS)
  have hn : sy_n S ≤ 6 := hS.1.1.1
  refine nd_enter hg (by decide) rfl (Nat.le_of_ble_eq_true rfl) (fun X hC => ?_)
  refine nd_aload_n hC dX1_at_0 rfl rfl ?_
  refine nd_callV (mm2 := mX1_now) (As := []) (mc2 := 0) (ms2 := 0) (d2 := d - 1) hC rfl lkX1_161 ⟨rfl, lmX1_now⟩ (hO) rfl (Nat.le_of_ble_eq_true rfl) (by omega) rfl (by exact Nat.le_of_ble_eq_true rfl) (by omega) (by omega) dX1_at_1 rfl ((cw_now hg (by omega) hS hs hK (fun h2 R hR f hs2 hK2 hl => ?_)))
  obtain ⟨w, hi, co, hL, hw, hcl⟩ := id hl
  subst hw
  refine nd_astore_n hC dX1_at_4 (Nat.le_of_ble_eq_true rfl) rfl ?_
  refine nd_iload_n hC dX1_at_5 rfl ?_
  first | with_reducible refine nd_i2lN hC (by omega) dX1_at_6 ?_ | refine nd_i2l hC dX1_at_6 ?_
  refine nd_lconst hC (v := lN 0) (by rfl) dX1_at_7 ?_
  refine nd_aload_n hC dX1_at_8 rfl rfl ?_
  refine nd_getN (ci := nX4) hC in_X4 rfl hL.1 2 (by decide) q344 (fun _ z => z) rfl dX1_at_9 ?_
  refine nd_iconst hC (v := nI 1) (by rfl) dX1_at_12 ?_
  first | with_reducible refine nd_isubN hC (by omega) dX1_at_13 ?_ | refine nd_isub hC dX1_at_13 ?_
  first | with_reducible refine nd_i2lN hC (by omega) dX1_at_14 ?_ | refine nd_i2l hC dX1_at_14 ?_
  refine nd_callS (mm2 := mX1_isIn) (As := [_, _, _]) (mc2 := 0) (ms2 := 0) (d2 := d - 1) hC rfl lkX1_106 lmX1_isIn (Nat.le_of_ble_eq_true rfl) (by omega) rfl (by exact Nat.le_of_ble_eq_true rfl) (by omega) (by omega) dX1_at_15 rfl ((ci_isIn hg ?_))
  have e : (decide (lN 0 ≤ x.toInt64) && decide (x.toInt64 ≤ (nI (sy_l S).length - nI 1).toInt64)) = op_in x 0 ((sy_l S).length - 1) := by
    unfold op_in
    rw [Bool.eq_iff_iff, Bool.and_eq_true, nd_lle, nd_lle, nd_tl, nd_tl, nd_ti (by omega) (by omega), lN_toInt (by decide), decide_eq_true_iff]
    omega
  rw [e]
  refine nd_callS (mm2 := mX1_there) (As := [_]) (mc2 := 1) (ms2 := 6) (d2 := d - 1) hC rfl lkX1_168 lmX1_there (Nat.le_of_ble_eq_true rfl) (by omega) rfl (by exact Nat.le_of_ble_eq_true rfl) (by omega) (by omega) dX1_at_18 rfl ((ci_there hg (fun hc => ?_) (fun hc n => ?_)))
  · refine nd_aload_n hC dX1_at_21 rfl rfl ?_
    refine nd_areturn hC rfl (by first | exact Or.inl ⟨_, rfl⟩ | exact Or.inr ⟨_, rfl⟩) (by rfl) (by omega) (by omega) dX1_at_22 ((hk hc h2 R hR f hs2 hK2 hl))
  · exact nd_out hC rfl (by omega) (by omega) (he hc _ _ f.app hs2.app (hK2.f cw_f.rfl.app))
theorem cp_high (hg : nd_OK g) (hd : 6 ≤ d) (x : Int32) : cp_ok g mX1_high d 2 12 [.int x] (ex1 eNSE) (mp_i (op_high x)) := by
  intro S h K hS hI hl123 hk0 hk1
  obtain ⟨hs, o, nap, ds, gi, dss, hK⟩ := hI
  obtain ⟨⟨x0, hO⟩, h17, hkk, -⟩ := id hK
  unfold cx_O at hO
  have hok := sy_l_ok hS
  have hwd := lk_width hok
  have hn : sy_n S ≤ 6 := hS.1.1.1
  have h5 := sy_len5 hS
  obtain ⟨sfr, sbk, sfo, smn, hSt, hcv⟩ := id hkk.2.1
  obtain ⟨hSt1, hSt2, hSt3, hSt4⟩ := id hSt
  have hcv : cs_v sfr sbk sfo smn (sy_c S) := hcv
  have hsv : sv_ok (sy_n S) (sy_c S) := hS.1.2.1
  unfold mp_i op_high at hk0 hk1
  refine nd_enter hg (by decide) rfl (Nat.le_of_ble_eq_true rfl) (fun X hC => ?_)
  refine nd_aload_n hC dX1_high_0 rfl rfl ?_
  refine nd_iload_n hC dX1_high_1 rfl ?_
  refine nd_callV (mm2 := mX1_at) (As := [_]) (mc2 := 1) (ms2 := 6) (d2 := d - 1) hC rfl lkX1_194 ⟨rfl, lmX1_at⟩ (hO) rfl (Nat.le_of_ble_eq_true rfl) (by omega) rfl (by exact Nat.le_of_ble_eq_true rfl) (by omega) (by omega) dX1_high_2 rfl ((cx_at hg (by omega) hS hs hK (fun hc h2 R hR f hs2 hK2 hl => ?_) (fun hc h2 k f hs2 hK2 => ?_)))
  · rw [if_pos hc] at hk0
    obtain ⟨k, hk9, rfl⟩ := op_in_nat hc
    rw [nI_cl (by omega)] at hk0
    obtain ⟨w, hi, co, hL, hw, hcl⟩ := id hl
    have hcl1 := (hcl k (by omega)).1
    refine nd_getN (ci := nX4) hC in_X4 rfl hL.1 1 (by decide) q338 (fun _ z => z) rfl dX1_high_5 ?_
    refine nd_iload_n hC dX1_high_8 rfl ?_
    refine nd_ialoadN hC hL.2.2.2 (by omega) (by omega) dX1_high_9 ?_
    rw [hcl1]
    refine nd_ireturn hC rfl (by first | rfl | exact nd_b_nar _) (by omega) (by omega) dX1_high_10 ((hk0 rfl h2 ⟨hs2, o, nap, ds, gi, dss, hK2⟩ (f.fr hl123)))
  · rw [if_neg (by rw [hc]; decide)] at hk1
    exact nd_out hC rfl (by omega) (by omega) (hk1 (Nat.succ_ne_zero _) _ _ ⟨hs2, o, nap, ds, gi, dss, hK2⟩ (f.fr hl123))
theorem cp_layer (hg : nd_OK g) (hd : 6 ≤ d) (x y : Int32) : cp_ok g mX1_layer d 2 12 [.int x, .int y] (ex2 eNSE eIAE) (mp_i (op_layer x y)) := by
  intro S h K hS hI hl123 hk0 hk1
  obtain ⟨hs, o, nap, ds, gi, dss, hK⟩ := hI
  obtain ⟨⟨x0, hO⟩, h17, hkk, -⟩ := id hK
  unfold cx_O at hO
  have hok := sy_l_ok hS
  have hwd := lk_width hok
  have hn : sy_n S ≤ 6 := hS.1.1.1
  have h5 := sy_len5 hS
  obtain ⟨sfr, sbk, sfo, smn, hSt, hcv⟩ := id hkk.2.1
  obtain ⟨hSt1, hSt2, hSt3, hSt4⟩ := id hSt
  have hcv : cs_v sfr sbk sfo smn (sy_c S) := hcv
  have hsv : sv_ok (sy_n S) (sy_c S) := hS.1.2.1
  unfold mp_i op_layer at hk0 hk1
  refine nd_enter hg (by decide) rfl (Nat.le_of_ble_eq_true rfl) (fun X hC => ?_)
  refine nd_aload_n hC dX1_layer_0 rfl rfl ?_
  refine nd_iload_n hC dX1_layer_1 rfl ?_
  refine nd_callV (mm2 := mX1_at) (As := [_]) (mc2 := 1) (ms2 := 6) (d2 := d - 1) hC rfl lkX1_194 ⟨rfl, lmX1_at⟩ (hO) rfl (Nat.le_of_ble_eq_true rfl) (by omega) rfl (by exact Nat.le_of_ble_eq_true rfl) (by omega) (by omega) dX1_layer_2 rfl ((cx_at hg (by omega) hS hs hK (fun hc h2 R hR f hs2 hK2 hl => ?_) (fun hc h2 k f hs2 hK2 => ?_)))
  · rw [if_pos hc] at hk0 hk1
    obtain ⟨k, hk9, rfl⟩ := op_in_nat hc
    rw [nI_cl (by omega)] at hk0 hk1
    obtain ⟨w, hi, co, hL, hw, hcl⟩ := id hl
    obtain ⟨hcl1, hcl2⟩ := hcl k (by omega)
    have hcol : ((sy_l S).getD k []).length ≤ 6 := Nat.le_of_not_lt (fun z => by have := (lk_at_lt hok hn (lk_col_at hok (t := k) (i := 6) (by omega) z)).2.2; omega)
    refine nd_astore_n hC dX1_layer_5 (Nat.le_of_ble_eq_true rfl) rfl ?_
    refine nd_iload_n hC dX1_layer_6 rfl ?_
    refine nd_if_lt hC (tgt := 14) dX1_layer_7 (by decide) (fun hq => ?_) (fun hq => ?_)
    · rw [if_neg (by rw [Int32.not_le]; exact hq)] at hk1
      refine nd_iconst hC (v := nI 0) (by rfl) dX1_layer_14 ?_
      refine nd_callS (mm2 := mX1_needs) (As := [_]) (mc2 := 1) (ms2 := 6) (d2 := d - 1) hC rfl lkX1_110 lmX1_needs (Nat.le_of_ble_eq_true rfl) (by omega) rfl (by exact Nat.le_of_ble_eq_true rfl) (by omega) (by omega) dX1_layer_15 rfl ((ci_needs (b := false) hg (fun z => by cases z) (fun _ n => ?_)))
      exact nd_out hC rfl (by omega) (by omega) (hk1 (Nat.succ_ne_zero _) _ _ ⟨hs2.app, o, nap, ds, gi, dss, hK2.f cw_f.rfl.app⟩ (f.app.fr hl123))
    · rw [if_pos (by rw [← Int32.not_lt]; exact hq)] at hk0
      obtain ⟨j, hj9, rfl⟩ := op_nat (by rw [← Int32.not_lt]; exact hq)
      rw [nI_cl hj9] at hk0
      refine nd_iconst hC (v := nI 1) (by rfl) dX1_layer_10 ?_
      refine nd_goto hC (tgt := 15) dX1_layer_11 (by decide) ?_
      refine nd_callS (mm2 := mX1_needs) (As := [_]) (mc2 := 1) (ms2 := 6) (d2 := d - 1) hC rfl lkX1_110 lmX1_needs (Nat.le_of_ble_eq_true rfl) (by omega) rfl (by exact Nat.le_of_ble_eq_true rfl) (by omega) (by omega) dX1_layer_15 rfl ((ci_needs (b := true) hg (fun _ => ?_) (fun z => by cases z)))
      refine nd_iload_n hC dX1_layer_18 rfl ?_
      refine nd_aload_n hC dX1_layer_19 rfl rfl ?_
      refine nd_getN (ci := nX4) hC in_X4 rfl hL.1 1 (by decide) q338 (fun _ z => z) rfl dX1_layer_20 ?_
      refine nd_iload_n hC dX1_layer_23 rfl ?_
      refine nd_ialoadN hC hL.2.2.2 (by omega) (by omega) dX1_layer_24 ?_
      rw [hcl1]
      first | with_reducible refine nd_icmp_geN hC (tgt := 41) (by omega) (by omega) dX1_layer_25 (by decide) (fun hq2 => ?_) (fun hq2 => ?_) | refine nd_icmp_ge hC (tgt := 41) dX1_layer_25 (by decide) (fun hq2 => ?_) (fun hq2 => ?_)
      · rw [if_neg (by omega)] at hk0
        refine nd_iconst hC (v := -1) (by rfl) dX1_layer_41 ?_
        refine nd_ireturn hC rfl (by first | rfl | exact nd_b_nar _) (by omega) (by omega) dX1_layer_42 ((hk0 rfl h2 ⟨hs2, o, nap, ds, gi, dss, hK2⟩ (f.fr hl123)))
      · rw [if_pos (by omega)] at hk0
        refine nd_aload_n hC dX1_layer_28 rfl rfl ?_
        refine nd_getN (ci := nX4) hC in_X4 rfl hL.1 0 (by decide) q335 (fun _ z => z) rfl dX1_layer_29 ?_
        refine nd_iload_n hC dX1_layer_32 rfl ?_
        refine nd_aaloadN hC rfl rfl hL.2.1 (by omega) (by omega) dX1_layer_33 ?_
        refine nd_iload_n hC dX1_layer_34 rfl ?_
        refine nd_ialoadN hC (hL.2.2.1 k (by omega)) (by omega) (by omega) dX1_layer_35 ?_
        rw [hcl2 j (by omega)]
        have hxx := (lk_at_lt hok hn (lk_col_at hok (t := k) (i := j) (by omega) (by omega))).1
        refine nd_iconst hC (v := nI 2) (by rfl) dX1_layer_36 ?_
        first | with_reducible refine nd_idivN hC (by omega) (by omega) (by omega) dX1_layer_37 ?_ | refine nd_idiv hC (by decide) dX1_layer_37 ?_
        refine nd_goto hC (tgt := 42) dX1_layer_38 (by decide) ?_
        refine nd_ireturn hC rfl (by first | rfl | exact nd_b_nar _) (by omega) (by omega) dX1_layer_42 ((hk0 rfl h2 ⟨hs2, o, nap, ds, gi, dss, hK2⟩ (f.fr hl123)))
  · rw [if_neg (by rw [hc]; decide)] at hk1
    exact nd_out hC rfl (by omega) (by omega) (hk1 (Nat.succ_ne_zero _) _ _ ⟨hs2, o, nap, ds, gi, dss, hK2⟩ (f.fr hl123))
theorem cp_above (hg : nd_OK g) (hd : 6 ≤ d) (x : Int32) : cp_ok g mX1_above d 2 12 [.int x] (ex1 eNSE) (mp_i (op_above x)) := by
  intro S h K hS hI hl123 hk0 hk1
  obtain ⟨hs, o, nap, ds, gi, dss, hK⟩ := hI
  obtain ⟨⟨x0, hO⟩, h17, hkk, -⟩ := id hK
  unfold cx_O at hO
  have hok := sy_l_ok hS
  have hwd := lk_width hok
  have hn : sy_n S ≤ 6 := hS.1.1.1
  have h5 := sy_len5 hS
  obtain ⟨sfr, sbk, sfo, smn, hSt, hcv⟩ := id hkk.2.1
  obtain ⟨hSt1, hSt2, hSt3, hSt4⟩ := id hSt
  have hcv : cs_v sfr sbk sfo smn (sy_c S) := hcv
  have hsv : sv_ok (sy_n S) (sy_c S) := hS.1.2.1
  unfold mp_i op_above at hk0 hk1
  refine nd_enter hg (by decide) rfl (Nat.le_of_ble_eq_true rfl) (fun X hC => ?_)
  refine nd_aload_n hC dX1_above_0 rfl rfl ?_
  refine nd_get (ci := nX1) hC in_X1 rfl hO 0 (by decide) q384 (fun _ z => z) rfl dX1_above_1 ?_
  refine nd_aload_n hC dX1_above_4 rfl rfl ?_
  refine nd_iload_n hC dX1_above_5 rfl ?_
  refine nd_callV (mm2 := mX1_at) (As := [_]) (mc2 := 1) (ms2 := 6) (d2 := d - 1) hC rfl lkX1_194 ⟨rfl, lmX1_at⟩ (hO) rfl (Nat.le_of_ble_eq_true rfl) (by omega) rfl (by exact Nat.le_of_ble_eq_true rfl) (by omega) (by omega) dX1_above_6 rfl ((cx_at hg (by omega) hS hs hK (fun hc h2 R hR f hs2 hK2 hl => ?_) (fun hc h2 k f hs2 hK2 => ?_)))
  · rw [if_pos hc] at hk0
    obtain ⟨k, hk9, rfl⟩ := op_in_nat hc
    rw [nI_cl (by omega)] at hk0
    obtain ⟨w, hi, co, hL, hw, hcl⟩ := id hl
    obtain ⟨-, -, hkk2, -⟩ := id hK2
    obtain ⟨sfr2, sbk2, sfo2, smn2, hSt2', -⟩ := id hkk2.2.1
    refine nd_iload_n hC dX1_above_9 rfl ?_
    refine nd_callV (mm2 := mX4_above) (As := [_]) (mc2 := 0) (ms2 := 0) (d2 := d - 1) hC rfl lkX1_205 ⟨rfl, lmX4_above⟩ (hL.1) rfl (Nat.le_of_ble_eq_true rfl) (by omega) rfl (by exact Nat.le_of_ble_eq_true rfl) (by omega) (by omega) dX1_above_10 rfl ((cl_above hg hl hok hn (t := k) (by omega) ?_))
    refine nd_callV (mm2 := mX2_mark) (As := [_]) (mc2 := 0) (ms2 := 0) (d2 := d - 1) hC rfl lkX1_208 ⟨rfl, lmX2_mark⟩ (hSt2'.1) rfl (Nat.le_of_ble_eq_true rfl) (by omega) rfl (by exact Nat.le_of_ble_eq_true rfl) (by omega) (by omega) dX1_above_13 rfl ((cs_mark hg hkk2.2.1 hsv.2.1 hsv.2.2.1 hn (lk_top_half hok hn (by omega)) ?_))
    refine nd_ireturn hC rfl (by first | rfl | exact nd_b_nar _) (by omega) (by omega) dX1_above_16 ((hk0 rfl h2 ⟨hs2, o, nap, ds, gi, dss, hK2⟩ (f.fr hl123)))
  · rw [if_neg (by rw [hc]; decide)] at hk1
    exact nd_out hC rfl (by omega) (by omega) (hk1 (Nat.succ_ne_zero _) _ _ ⟨hs2, o, nap, ds, gi, dss, hK2⟩ (f.fr hl123))
theorem cp_beneath (hg : nd_OK g) (hd : 6 ≤ d) (x : Int32) : cp_ok g mX1_beneath d 2 12 [.int x] (ex1 eNSE) (mp_i (op_beneath x)) := by
  intro S h K hS hI hl123 hk0 hk1
  obtain ⟨hs, o, nap, ds, gi, dss, hK⟩ := hI
  obtain ⟨⟨x0, hO⟩, h17, hkk, -⟩ := id hK
  unfold cx_O at hO
  have hok := sy_l_ok hS
  have hwd := lk_width hok
  have hn : sy_n S ≤ 6 := hS.1.1.1
  have h5 := sy_len5 hS
  obtain ⟨sfr, sbk, sfo, smn, hSt, hcv⟩ := id hkk.2.1
  obtain ⟨hSt1, hSt2, hSt3, hSt4⟩ := id hSt
  have hcv : cs_v sfr sbk sfo smn (sy_c S) := hcv
  have hsv : sv_ok (sy_n S) (sy_c S) := hS.1.2.1
  unfold mp_i op_beneath at hk0 hk1
  refine nd_enter hg (by decide) rfl (Nat.le_of_ble_eq_true rfl) (fun X hC => ?_)
  refine nd_aload_n hC dX1_beneath_0 rfl rfl ?_
  refine nd_get (ci := nX1) hC in_X1 rfl hO 0 (by decide) q384 (fun _ z => z) rfl dX1_beneath_1 ?_
  refine nd_aload_n hC dX1_beneath_4 rfl rfl ?_
  refine nd_iload_n hC dX1_beneath_5 rfl ?_
  refine nd_callV (mm2 := mX1_at) (As := [_]) (mc2 := 1) (ms2 := 6) (d2 := d - 1) hC rfl lkX1_194 ⟨rfl, lmX1_at⟩ (hO) rfl (Nat.le_of_ble_eq_true rfl) (by omega) rfl (by exact Nat.le_of_ble_eq_true rfl) (by omega) (by omega) dX1_beneath_6 rfl ((cx_at hg (by omega) hS hs hK (fun hc h2 R hR f hs2 hK2 hl => ?_) (fun hc h2 k f hs2 hK2 => ?_)))
  · rw [if_pos hc] at hk0
    obtain ⟨k, hk9, rfl⟩ := op_in_nat hc
    rw [nI_cl (by omega)] at hk0
    obtain ⟨w, hi, co, hL, hw, hcl⟩ := id hl
    obtain ⟨-, -, hkk2, -⟩ := id hK2
    obtain ⟨sfr2, sbk2, sfo2, smn2, hSt2', -⟩ := id hkk2.2.1
    refine nd_iload_n hC dX1_beneath_9 rfl ?_
    refine nd_callV (mm2 := mX4_beneath) (As := [_]) (mc2 := 0) (ms2 := 0) (d2 := d - 1) hC rfl lkX1_211 ⟨rfl, lmX4_beneath⟩ (hL.1) rfl (Nat.le_of_ble_eq_true rfl) (by omega) rfl (by exact Nat.le_of_ble_eq_true rfl) (by omega) (by omega) dX1_beneath_10 rfl ((cl_beneath hg hl hok hn (t := k) (by omega) ?_))
    refine nd_callV (mm2 := mX2_mark) (As := [_]) (mc2 := 0) (ms2 := 0) (d2 := d - 1) hC rfl lkX1_208 ⟨rfl, lmX2_mark⟩ (hSt2'.1) rfl (Nat.le_of_ble_eq_true rfl) (by omega) rfl (by exact Nat.le_of_ble_eq_true rfl) (by omega) (by omega) dX1_beneath_13 rfl ((cs_mark hg hkk2.2.1 hsv.2.1 hsv.2.2.1 hn (lk_bot_half hok hn (by omega)) ?_))
    refine nd_ireturn hC rfl (by first | rfl | exact nd_b_nar _) (by omega) (by omega) dX1_beneath_16 ((hk0 rfl h2 ⟨hs2, o, nap, ds, gi, dss, hK2⟩ (f.fr hl123)))
  · rw [if_neg (by rw [hc]; decide)] at hk1
    exact nd_out hC rfl (by omega) (by omega) (hk1 (Nat.succ_ne_zero _) _ _ ⟨hs2, o, nap, ds, gi, dss, hK2⟩ (f.fr hl123))
theorem cp_crease (hg : nd_OK g) (hd : 6 ≤ d) (x : Int32) : cp_ok g mX1_crease d 2 12 [.int x] (ex1 eNSE) (mp_i (op_crease x)) := by
  intro S h K hS hI hl123 hk0 hk1
  obtain ⟨hs, o, nap, ds, gi, dss, hK⟩ := hI
  obtain ⟨⟨x0, hO⟩, h17, hkk, -⟩ := id hK
  unfold cx_O at hO
  have hok := sy_l_ok hS
  have hwd := lk_width hok
  have hn : sy_n S ≤ 6 := hS.1.1.1
  have h5 := sy_len5 hS
  obtain ⟨sfr, sbk, sfo, smn, hSt, hcv⟩ := id hkk.2.1
  obtain ⟨hSt1, hSt2, hSt3, hSt4⟩ := id hSt
  have hcv : cs_v sfr sbk sfo smn (sy_c S) := hcv
  have hsv : sv_ok (sy_n S) (sy_c S) := hS.1.2.1
  unfold mp_i op_crease at hk0 hk1
  refine nd_enter hg (by decide) rfl (Nat.le_of_ble_eq_true rfl) (fun X hC => ?_)
  refine nd_iload_n hC dX1_crease_0 rfl ?_
  first | with_reducible refine nd_i2lN hC (by omega) dX1_crease_1 ?_ | refine nd_i2l hC dX1_crease_1 ?_
  refine nd_lconst hC (v := lN 0) (by rfl) dX1_crease_2 ?_
  refine nd_aload_n hC dX1_crease_3 rfl rfl ?_
  refine nd_callV (mm2 := mX1_cells) (As := []) (mc2 := 0) (ms2 := 0) (d2 := d - 1) hC rfl lkX1_214 ⟨rfl, lmX1_cells⟩ (hO) rfl (Nat.le_of_ble_eq_true rfl) (by omega) rfl (by exact Nat.le_of_ble_eq_true rfl) (by omega) (by omega) dX1_crease_4 rfl ((cx_cells hg (by omega) (hK.P hs) ?_))
  refine nd_iconst hC (v := nI 2) (by rfl) dX1_crease_7 ?_
  first | with_reducible refine nd_isubN hC (by omega) dX1_crease_8 ?_ | refine nd_isub hC dX1_crease_8 ?_
  first | with_reducible refine nd_i2lN hC (by omega) dX1_crease_9 ?_ | refine nd_i2l hC dX1_crease_9 ?_
  refine nd_callS (mm2 := mX1_isIn) (As := [_, _, _]) (mc2 := 0) (ms2 := 0) (d2 := d - 1) hC rfl lkX1_106 lmX1_isIn (Nat.le_of_ble_eq_true rfl) (by omega) rfl (by exact Nat.le_of_ble_eq_true rfl) (by omega) (by omega) dX1_crease_10 rfl ((ci_isIn hg ?_))
  have e : (decide (lN 0 ≤ x.toInt64) && decide (x.toInt64 ≤ (nI (sy_n S) - nI 2).toInt64)) = op_in x 0 ((sy_n S : Int) - 2) := by
    unfold op_in
    rw [Bool.eq_iff_iff, Bool.and_eq_true, nd_lle, nd_lle, nd_tl, nd_tl, nd_ti (by omega) (by omega), lN_toInt (by decide), decide_eq_true_iff]
    omega
  rw [e]
  refine nd_callS (mm2 := mX1_there) (As := [_]) (mc2 := 1) (ms2 := 6) (d2 := d - 1) hC rfl lkX1_168 lmX1_there (Nat.le_of_ble_eq_true rfl) (by omega) rfl (by exact Nat.le_of_ble_eq_true rfl) (by omega) (by omega) dX1_crease_13 rfl ((ci_there hg (fun hc => ?_) (fun hc n => ?_)))
  · rw [if_pos hc] at hk0
    obtain ⟨k, hk9, rfl⟩ := op_in_nat hc
    rw [nI_cl (by omega)] at hk0
    refine nd_aload_n hC dX1_crease_16 rfl rfl ?_
    refine nd_callV (mm2 := mX1_now) (As := []) (mc2 := 0) (ms2 := 0) (d2 := d - 1) hC rfl lkX1_161 ⟨rfl, lmX1_now⟩ (hO) rfl (Nat.le_of_ble_eq_true rfl) (by omega) rfl (by exact Nat.le_of_ble_eq_true rfl) (by omega) (by omega) dX1_crease_17 rfl ((cw_now hg (by omega) hS hs hK (fun h2 R hR f hs2 hK2 hl => ?_)))
    obtain ⟨w, hi, co, hL, hw, hcl⟩ := id hl
    refine nd_iload_n hC dX1_crease_20 rfl ?_
    refine nd_callV (mm2 := mX4_crease) (As := [_]) (mc2 := 0) (ms2 := 0) (d2 := d - 1) hC rfl lkX1_215 ⟨rfl, lmX4_crease⟩ (hL.1) rfl (Nat.le_of_ble_eq_true rfl) (by omega) rfl (by exact Nat.le_of_ble_eq_true rfl) (by omega) (by omega) dX1_crease_21 rfl ((cl_crease hg (by omega) hl hok hn (k := k) (by omega) ?_))
    refine nd_ireturn hC rfl (by first | rfl | exact nd_b_nar _) (by omega) (by omega) dX1_crease_24 ((hk0 rfl h2 ⟨hs2, o, nap, ds, gi, dss, hK2⟩ (f.fr hl123)))
  · rw [if_neg (by rw [hc]; decide)] at hk1
    exact nd_out hC rfl (by omega) (by omega) (hk1 (Nat.succ_ne_zero _) _ _ ⟨hs.app, o, nap, ds, gi, dss, hK.f cw_f.rfl.app⟩ (cw_f.rfl.app.fr hl123))
theorem cp_folded (hg : nd_OK g) (hd : 6 ≤ d) (x : Int32) : cp_ok g mX1_folded d 2 12 [.int x] (ex1 eIAE) (mp_i (op_folded x)) := by
  intro S h K hS hI hl123 hk0 hk1
  obtain ⟨hs, o, nap, ds, gi, dss, hK⟩ := hI
  obtain ⟨⟨x0, hO⟩, h17, hkk, -⟩ := id hK
  unfold cx_O at hO
  have hok := sy_l_ok hS
  have hwd := lk_width hok
  have hn : sy_n S ≤ 6 := hS.1.1.1
  have h5 := sy_len5 hS
  obtain ⟨sfr, sbk, sfo, smn, hSt, hcv⟩ := id hkk.2.1
  obtain ⟨hSt1, hSt2, hSt3, hSt4⟩ := id hSt
  have hcv : cs_v sfr sbk sfo smn (sy_c S) := hcv
  have hsv : sv_ok (sy_n S) (sy_c S) := hS.1.2.1
  unfold mp_i op_folded at hk0 hk1
  refine nd_enter hg (by decide) rfl (Nat.le_of_ble_eq_true rfl) (fun X hC => ?_)
  refine nd_iload_n hC dX1_folded_0 rfl ?_
  refine nd_if_lt hC (tgt := 8) dX1_folded_1 (by decide) (fun hq => ?_) (fun hq => ?_)
  · rw [if_neg (by rw [Int32.not_le]; exact hq)] at hk1
    refine nd_iconst hC (v := nI 0) (by rfl) dX1_folded_8 ?_
    refine nd_callS (mm2 := mX1_needs) (As := [_]) (mc2 := 1) (ms2 := 6) (d2 := d - 1) hC rfl lkX1_110 lmX1_needs (Nat.le_of_ble_eq_true rfl) (by omega) rfl (by exact Nat.le_of_ble_eq_true rfl) (by omega) (by omega) dX1_folded_9 rfl ((ci_needs (b := false) hg (fun z => by cases z) (fun _ n => ?_)))
    exact nd_out hC rfl (by omega) (by omega) (hk1 (Nat.succ_ne_zero _) _ _ ⟨hs.app, o, nap, ds, gi, dss, hK.f cw_f.rfl.app⟩ (cw_f.rfl.app.fr hl123))
  · rw [if_pos (by rw [← Int32.not_lt]; exact hq)] at hk0
    obtain ⟨j, hj9, rfl⟩ := op_nat (by rw [← Int32.not_lt]; exact hq)
    rw [nI_cl hj9] at hk0
    refine nd_iconst hC (v := nI 1) (by rfl) dX1_folded_4 ?_
    refine nd_goto hC (tgt := 9) dX1_folded_5 (by decide) ?_
    refine nd_callS (mm2 := mX1_needs) (As := [_]) (mc2 := 1) (ms2 := 6) (d2 := d - 1) hC rfl lkX1_110 lmX1_needs (Nat.le_of_ble_eq_true rfl) (by omega) rfl (by exact Nat.le_of_ble_eq_true rfl) (by omega) (by omega) dX1_folded_9 rfl ((ci_needs (b := true) hg (fun _ => ?_) (fun z => by cases z)))
    have cv1 : smn = nI (sy_c S).1.length := hcv.1
    have cv2 : ∀ i, i < (sy_c S).1.length → sfo i = nI ((sy_c S).1.getD i 0) := hcv.2.1
    subst cv1
    refine nd_iload_n hC dX1_folded_12 rfl ?_
    refine nd_aload_n hC dX1_folded_13 rfl rfl ?_
    refine nd_get (ci := nX1) hC in_X1 rfl hO 0 (by decide) q384 (fun _ z => z) rfl dX1_folded_14 ?_
    refine nd_getN (ci := nX2) hC in_X2 rfl hSt1 4 (by decide) q310 (fun _ z => z) rfl dX1_folded_17 ?_
    first | with_reducible refine nd_icmp_geN hC (tgt := 35) (by omega) (by omega) dX1_folded_20 (by decide) (fun hq2 => ?_) (fun hq2 => ?_) | refine nd_icmp_ge hC (tgt := 35) dX1_folded_20 (by decide) (fun hq2 => ?_) (fun hq2 => ?_)
    · rw [if_neg (by omega)] at hk0
      refine nd_iconst hC (v := -1) (by rfl) dX1_folded_35 ?_
      refine nd_ireturn hC rfl (by first | rfl | exact nd_b_nar _) (by omega) (by omega) dX1_folded_36 ((hk0 rfl h ⟨hs, o, nap, ds, gi, dss, hK⟩ (cw_f.rfl.fr hl123)))
    · rw [if_pos (by omega)] at hk0
      refine nd_aload_n hC dX1_folded_23 rfl rfl ?_
      refine nd_get (ci := nX1) hC in_X1 rfl hO 0 (by decide) q384 (fun _ z => z) rfl dX1_folded_24 ?_
      refine nd_getN (ci := nX2) hC in_X2 rfl hSt1 3 (by decide) q307 (fun _ z => z) rfl dX1_folded_27 ?_
      refine nd_iload_n hC dX1_folded_30 rfl ?_
      refine nd_ialoadN hC hSt4 (by omega) (by omega) dX1_folded_31 ?_
      rw [cv2 j (by omega)]
      refine nd_goto hC (tgt := 36) dX1_folded_32 (by decide) ?_
      refine nd_ireturn hC rfl (by first | rfl | exact nd_b_nar _) (by omega) (by omega) dX1_folded_36 ((hk0 rfl h ⟨hs, o, nap, ds, gi, dss, hK⟩ (cw_f.rfl.fr hl123)))
theorem cp_fault (hg : nd_OK g) (hd : 6 ≤ d) (x : Int32) : cp_ok g mX1_fault d 2 12 [.int x] (ex1 eIAE) (mp_i (op_fault x)) := by
  intro S h K hS hI hl123 hk0 hk1
  obtain ⟨hs, o, nap, ds, gi, dss, hK⟩ := hI
  obtain ⟨⟨x0, hO⟩, h17, hkk, -⟩ := id hK
  unfold cx_O at hO
  have hok := sy_l_ok hS
  have hwd := lk_width hok
  have hn : sy_n S ≤ 6 := hS.1.1.1
  have h5 := sy_len5 hS
  obtain ⟨sfr, sbk, sfo, smn, hSt, hcv⟩ := id hkk.2.1
  obtain ⟨hSt1, hSt2, hSt3, hSt4⟩ := id hSt
  have hcv : cs_v sfr sbk sfo smn (sy_c S) := hcv
  have hsv : sv_ok (sy_n S) (sy_c S) := hS.1.2.1
  unfold mp_i op_fault at hk0 hk1
  refine nd_enter hg (by decide) rfl (Nat.le_of_ble_eq_true rfl) (fun X hC => ?_)
  refine nd_iload_n hC dX1_fault_0 rfl ?_
  refine nd_if_ne hC (tgt := 11) dX1_fault_1 (by decide) (fun hq => ?_) (fun hq => ?_)
  · rw [if_neg hq] at hk0
    refine nd_iload_n hC dX1_fault_11 rfl ?_
    refine nd_iconst hC (v := nI 1) (by rfl) dX1_fault_12 ?_
    refine nd_icmp_ne hC (tgt := 23) dX1_fault_13 (by decide) (fun hq2 => ?_) (fun hq2 => ?_)
    · rw [if_neg hq2] at hk0
      refine nd_iconst hC (v := -1) (by rfl) dX1_fault_23 ?_
      refine nd_ireturn hC rfl (by first | rfl | exact nd_b_nar _) (by omega) (by omega) dX1_fault_24 ((hk0 rfl h ⟨hs, o, nap, ds, gi, dss, hK⟩ (cw_f.rfl.fr hl123)))
    · rw [if_pos hq2] at hk0
      refine nd_aload_n hC dX1_fault_16 rfl rfl ?_
      refine nd_get (ci := nX1) hC in_X1 rfl hO 8 (by decide) q394 (fun _ z => z) rfl dX1_fault_17 ?_
      refine nd_goto hC (tgt := 24) dX1_fault_20 (by decide) ?_
      refine nd_ireturn hC rfl (by first | rfl | exact nd_b_nar _) (by omega) (by omega) dX1_fault_24 ((hk0 rfl h ⟨hs, o, nap, ds, gi, dss, hK⟩ (cw_f.rfl.fr hl123)))
  · rw [if_pos hq] at hk0
    refine nd_aload_n hC dX1_fault_4 rfl rfl ?_
    refine nd_get (ci := nX1) hC in_X1 rfl hO 7 (by decide) q393 (fun _ z => z) rfl dX1_fault_5 ?_
    refine nd_goto hC (tgt := 24) dX1_fault_8 (by decide) ?_
    refine nd_ireturn hC rfl (by first | rfl | exact nd_b_nar _) (by omega) (by omega) dX1_fault_24 ((hk0 rfl h ⟨hs, o, nap, ds, gi, dss, hK⟩ (cw_f.rfl.fr hl123)))
theorem cp_worth (hg : nd_OK g) (hd : 920 ≤ d) : cp_ok g mX1_worth d 2 12 [] (ex1 eIAE) (mp_i (op_worth)) := by
  intro S h K hS hI hl123 hk0 hk1
  obtain ⟨hs, o, nap, ds, gi, dss, hK⟩ := hI
  obtain ⟨⟨x0, hO⟩, h17, hkk, -⟩ := id hK
  unfold cx_O at hO
  have hok := sy_l_ok hS
  have hwd := lk_width hok
  have hn : sy_n S ≤ 6 := hS.1.1.1
  have h5 := sy_len5 hS
  obtain ⟨sfr, sbk, sfo, smn, hSt, hcv⟩ := id hkk.2.1
  obtain ⟨hSt1, hSt2, hSt3, hSt4⟩ := id hSt
  have hcv : cs_v sfr sbk sfo smn (sy_c S) := hcv
  have hsv : sv_ok (sy_n S) (sy_c S) := hS.1.2.1
  unfold mp_i op_worth at hk0 hk1
  refine nd_enter hg (by decide) rfl (Nat.le_of_ble_eq_true rfl) (fun X hC => ?_)
  refine nd_aload_n hC dX1_worth_0 rfl rfl ?_
  refine nd_aload_n hC dX1_worth_1 rfl rfl ?_
  refine nd_callV (mm2 := mX1_now) (As := []) (mc2 := 0) (ms2 := 0) (d2 := d - 1) hC rfl lkX1_161 ⟨rfl, lmX1_now⟩ (hO) rfl (Nat.le_of_ble_eq_true rfl) (by omega) rfl (by exact Nat.le_of_ble_eq_true rfl) (by omega) (by omega) dX1_worth_2 rfl ((cw_now hg (by omega) hS hs hK (fun h2 R hR f hs2 hK2 hl => ?_)))
  obtain ⟨⟨x2, hO2⟩, -, hkk2, -⟩ := id hK2
  unfold cx_O at hO2
  obtain ⟨sfr2, sbk2, sfo2, smn2, hSt2', hcv2⟩ := id hkk2.2.1
  obtain ⟨cv1, cv2, -⟩ := hcv2
  subst cv1
  have hS1 := hSt2'.1
  refine nd_aload_n hC dX1_worth_5 rfl rfl ?_
  refine nd_get (ci := nX1) hC in_X1 rfl hO2 0 (by decide) q384 (fun _ z => z) rfl dX1_worth_6 ?_
  refine nd_getN (ci := nX2) hC in_X2 rfl hS1 4 (by decide) q310 (fun _ z => z) rfl dX1_worth_9 ?_
  refine nd_callV (mm2 := mX1_worth_2) (As := [_, _]) (mc2 := 0) (ms2 := 0) (d2 := d - 1) hC rfl lkX1_274 ⟨rfl, lmX1_worth_2⟩ (hO2) rfl (Nat.le_of_ble_eq_true rfl) (by omega) rfl (by exact Nat.le_of_ble_eq_true rfl) (by omega) (by omega) dX1_worth_12 rfl ((cx_worth2 hg (by omega) (hK2.P hs2) hsv hS.1.1 hl (by omega) hok (fun h3 tl3 f3 hT3 => ?_)))
  have f4 : cw_f h2 h3 := f3.cwf (fun a h1 h2 => by unfold cw_sc; omega)
  have hs3 := ((hK2.P hs2).ask f3 hT3).S hs2 (fun a ha => f3.2 a (by omega))
  refine nd_ireturn hC rfl (by first | rfl | exact nd_b_nar _) (by omega) (by omega) dX1_worth_15 ((hk0 rfl h3 ⟨hs3, o, nap, ds, gi, dss, (hK2.f f4)⟩ ((f.trans f4).fr hl123)))
theorem cp_holds (hg : nd_OK g) (hd : 920 ≤ d) : cp_ok g mX1_holds d 2 12 [] (ex1 eIAE) (mp_i (op_holds)) := by
  intro S h K hS hI hl123 hk0 hk1
  obtain ⟨hs, o, nap, ds, gi, dss, hK⟩ := hI
  obtain ⟨⟨x0, hO⟩, h17, hkk, -⟩ := id hK
  unfold cx_O at hO
  have hok := sy_l_ok hS
  have hwd := lk_width hok
  have hn : sy_n S ≤ 6 := hS.1.1.1
  have h5 := sy_len5 hS
  obtain ⟨sfr, sbk, sfo, smn, hSt, hcv⟩ := id hkk.2.1
  obtain ⟨hSt1, hSt2, hSt3, hSt4⟩ := id hSt
  have hcv : cs_v sfr sbk sfo smn (sy_c S) := hcv
  have hsv : sv_ok (sy_n S) (sy_c S) := hS.1.2.1
  unfold mp_i op_holds at hk0 hk1
  refine nd_enter hg (by decide) rfl (Nat.le_of_ble_eq_true rfl) (fun X hC => ?_)
  refine nd_aload_n hC dX1_holds_0 rfl rfl ?_
  refine nd_aload_n hC dX1_holds_1 rfl rfl ?_
  refine nd_callV (mm2 := mX1_now) (As := []) (mc2 := 0) (ms2 := 0) (d2 := d - 1) hC rfl lkX1_161 ⟨rfl, lmX1_now⟩ (hO) rfl (Nat.le_of_ble_eq_true rfl) (by omega) rfl (by exact Nat.le_of_ble_eq_true rfl) (by omega) (by omega) dX1_holds_2 rfl ((cw_now hg (by omega) hS hs hK (fun h2 R hR f hs2 hK2 hl => ?_)))
  obtain ⟨⟨x2, hO2⟩, -, hkk2, -⟩ := id hK2
  unfold cx_O at hO2
  obtain ⟨sfr2, sbk2, sfo2, smn2, hSt2', hcv2⟩ := id hkk2.2.1
  obtain ⟨cv1, cv2, -⟩ := hcv2
  subst cv1
  have hS1 := hSt2'.1
  refine nd_aload_n hC dX1_holds_5 rfl rfl ?_
  refine nd_get (ci := nX1) hC in_X1 rfl hO2 0 (by decide) q384 (fun _ z => z) rfl dX1_holds_6 ?_
  refine nd_getN (ci := nX2) hC in_X2 rfl hS1 4 (by decide) q310 (fun _ z => z) rfl dX1_holds_9 ?_
  refine nd_callV (mm2 := mX1_holds_2) (As := [_, _]) (mc2 := 0) (ms2 := 0) (d2 := d - 1) hC rfl lkX1_277 ⟨rfl, lmX1_holds_2⟩ (hO2) rfl (Nat.le_of_ble_eq_true rfl) (by omega) rfl (by exact Nat.le_of_ble_eq_true rfl) (by omega) (by omega) dX1_holds_12 rfl ((cx_holds2 hg (by omega) (hK2.P hs2) hsv hS.1.1 hl (by omega) hok (fun h3 tl3 f3 hT3 => ?_)))
  have f4 : cw_f h2 h3 := f3.cwf (fun a h1 h2 => by unfold cw_sc; omega)
  have hs3 := ((hK2.P hs2).ask f3 hT3).S hs2 (fun a ha => f3.2 a (by omega))
  refine nd_ireturn hC rfl (by first | rfl | exact nd_b_nar _) (by omega) (by omega) dX1_holds_15 ((hk0 rfl h3 ⟨hs3, o, nap, ds, gi, dss, (hK2.f f4)⟩ ((f.trans f4).fr hl123)))
theorem cp_likes_2 (hg : nd_OK g) (hd : 920 ≤ d) (x : Int32) : cp_ok g mX1_likes_2 d 2 12 [.int x] (ex1 eNSE) (mp_i (op_likes x)) := by
  intro S h K hS hI hl123 hk0 hk1
  obtain ⟨hs, o, nap, ds, gi, dss, hK⟩ := hI
  obtain ⟨⟨x0, hO⟩, h17, hkk, -⟩ := id hK
  unfold cx_O at hO
  have hok := sy_l_ok hS
  have hwd := lk_width hok
  have hn : sy_n S ≤ 6 := hS.1.1.1
  have h5 := sy_len5 hS
  obtain ⟨sfr, sbk, sfo, smn, hSt, hcv⟩ := id hkk.2.1
  obtain ⟨hSt1, hSt2, hSt3, hSt4⟩ := id hSt
  have hcv : cs_v sfr sbk sfo smn (sy_c S) := hcv
  have hsv : sv_ok (sy_n S) (sy_c S) := hS.1.2.1
  unfold mp_i op_likes at hk0 hk1
  have hwl : (nk_w (sy_N S)).length ≤ 4 := hS.1.1.2.2.1
  refine nd_enter hg (by decide) rfl (Nat.le_of_ble_eq_true rfl) (fun X hC => ?_)
  refine nd_iload_n hC dX1_likes_2_0 rfl ?_
  first | with_reducible refine nd_i2lN hC (by omega) dX1_likes_2_1 ?_ | refine nd_i2l hC dX1_likes_2_1 ?_
  refine nd_lconst hC (v := lN 0) (by rfl) dX1_likes_2_2 ?_
  refine nd_aload_n hC dX1_likes_2_3 rfl rfl ?_
  refine nd_callV (mm2 := mX1_guests) (As := []) (mc2 := 0) (ms2 := 0) (d2 := d - 1) hC rfl lkX1_280 ⟨rfl, lmX1_guests⟩ (hO) rfl (Nat.le_of_ble_eq_true rfl) (by omega) rfl (by exact Nat.le_of_ble_eq_true rfl) (by omega) (by omega) dX1_likes_2_4 rfl ((cx_guests hg (by omega) (hK.P hs) ?_))
  refine nd_iconst hC (v := nI 1) (by rfl) dX1_likes_2_7 ?_
  first | with_reducible refine nd_isubN hC (by omega) dX1_likes_2_8 ?_ | refine nd_isub hC dX1_likes_2_8 ?_
  first | with_reducible refine nd_i2lN hC (by omega) dX1_likes_2_9 ?_ | refine nd_i2l hC dX1_likes_2_9 ?_
  refine nd_callS (mm2 := mX1_isIn) (As := [_, _, _]) (mc2 := 0) (ms2 := 0) (d2 := d - 1) hC rfl lkX1_106 lmX1_isIn (Nat.le_of_ble_eq_true rfl) (by omega) rfl (by exact Nat.le_of_ble_eq_true rfl) (by omega) (by omega) dX1_likes_2_10 rfl ((ci_isIn hg ?_))
  have e : (decide (lN 0 ≤ x.toInt64) && decide (x.toInt64 ≤ (nI (nk_w (sy_N S)).length - nI 1).toInt64)) = op_in x 0 ((nk_w (sy_N S)).length - 1) := by
    unfold op_in
    rw [Bool.eq_iff_iff, Bool.and_eq_true, nd_lle, nd_lle, nd_tl, nd_tl, nd_ti (by omega) (by omega), lN_toInt (by decide), decide_eq_true_iff]
    omega
  rw [e]
  refine nd_callS (mm2 := mX1_there) (As := [_]) (mc2 := 1) (ms2 := 6) (d2 := d - 1) hC rfl lkX1_168 lmX1_there (Nat.le_of_ble_eq_true rfl) (by omega) rfl (by exact Nat.le_of_ble_eq_true rfl) (by omega) (by omega) dX1_likes_2_13 rfl ((ci_there hg (fun hc => ?_) (fun hc n => ?_)))
  · rw [if_pos hc] at hk0
    obtain ⟨k, hk9, rfl⟩ := op_in_nat hc
    rw [nI_cl (by omega)] at hk0
    refine nd_aload_n hC dX1_likes_2_16 rfl rfl ?_
    refine nd_iload_n hC dX1_likes_2_17 rfl ?_
    refine nd_aload_n hC dX1_likes_2_18 rfl rfl ?_
    refine nd_callV (mm2 := mX1_now) (As := []) (mc2 := 0) (ms2 := 0) (d2 := d - 1) hC rfl lkX1_161 ⟨rfl, lmX1_now⟩ (hO) rfl (Nat.le_of_ble_eq_true rfl) (by omega) rfl (by exact Nat.le_of_ble_eq_true rfl) (by omega) (by omega) dX1_likes_2_19 rfl ((cw_now hg (by omega) hS hs hK (fun h2 R hR f hs2 hK2 hl => ?_)))
    obtain ⟨⟨x2, hO2⟩, -, hkk2, -⟩ := id hK2
    unfold cx_O at hO2
    obtain ⟨sfr2, sbk2, sfo2, smn2, hSt2', hcv2⟩ := id hkk2.2.1
    obtain ⟨cv1, cv2, -⟩ := hcv2
    subst cv1
    have hS1 := hSt2'.1
    refine nd_aload_n hC dX1_likes_2_22 rfl rfl ?_
    refine nd_get (ci := nX1) hC in_X1 rfl hO2 0 (by decide) q384 (fun _ z => z) rfl dX1_likes_2_23 ?_
    refine nd_getN (ci := nX2) hC in_X2 rfl hS1 4 (by decide) q310 (fun _ z => z) rfl dX1_likes_2_26 ?_
    refine nd_callV (mm2 := mX1_likes) (As := [_, _, _]) (mc2 := 0) (ms2 := 0) (d2 := d - 1) hC rfl lkX1_282 ⟨rfl, lmX1_likes⟩ (hO2) rfl (Nat.le_of_ble_eq_true rfl) (by omega) rfl (by exact Nat.le_of_ble_eq_true rfl) (by omega) (by omega) dX1_likes_2_29 rfl ((cx_likes hg (by omega) (hK2.P hs2) hsv hS.1.1 hl (by omega) hok (gs := k) (by omega) (fun h3 tl3 f3 hT3 => ?_)))
    have f4 : cw_f h2 h3 := f3.cwf (fun a h1 h2 => by unfold cw_sc; omega)
    have hs3 := ((hK2.P hs2).ask f3 hT3).S hs2 (fun a ha => f3.2 a (by omega))
    refine nd_ireturn hC rfl (by first | rfl | exact nd_b_nar _) (by omega) (by omega) dX1_likes_2_32 ((hk0 rfl h3 ⟨hs3, o, nap, ds, gi, dss, (hK2.f f4)⟩ ((f.trans f4).fr hl123)))
  · rw [if_neg (by rw [hc]; decide)] at hk1
    exact nd_out hC rfl (by omega) (by omega) (hk1 (Nat.succ_ne_zero _) _ _ ⟨hs.app, o, nap, ds, gi, dss, hK.f cw_f.rfl.app⟩ (cw_f.rfl.app.fr hl123))
end CP31

