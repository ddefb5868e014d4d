set_option maxRecDepth 100000
/-! ===== deeds: shake, unfold, fold ===== -/
section CP69
variable {g : nd_G} {d : Nat} {K : nd_K} {h : nd_H} {o : Nat → Nat} {nap : Nat} {ds : List Nat} {gi : Nat → Value} {dss : Nat → List Nat} {S : sy_S}
theorem cw_fr.trans {h h2 h3 : nd_H} (a : cw_fr h h2) (b : cw_fr h2 h3) : cw_fr h h3 := ⟨Nat.le_trans a.1 b.1, fun x h1 h2 => (b.2 x h1 h2).trans (a.2 x h1 h2)⟩
theorem cs_S.cut {a k : Nat} {fr bk fo : Nat → Int32} {mn : Int32} {s : sv} (H : cs_S h a nap fr bk fo mn) (hv : cs_v fr bk fo mn s) (hk : k ≤ s.1.length) : cs_st (h.set a (.inr (nX2, [.ref nap, .ref (a + 5), .ref (a + 6), .ref (a + 7), .int (nI k)]))) a nap (s.1.take k, s.2.1, s.2.2) := by
  obtain ⟨h1, h2, h3, h4⟩ := H
  refine ⟨fr, bk, fo, nI k, ⟨List.getElem?_set_self (nd_get_lt h1), (List.getElem?_set_ne (by omega)).trans h2, (List.getElem?_set_ne (by omega)).trans h3, (List.getElem?_set_ne (by omega)).trans h4⟩, ?_, fun i hi => ?_, hv.2.2.1, hv.2.2.2⟩
  · show nI k = nI (s.1.take k).length
    rw [List.length_take, Nat.min_eq_left hk]
  · have hi : i < (s.1.take k).length := hi
    rw [List.length_take, Nat.min_eq_left hk] at hi
    show fo i = nI ((s.1.take k).getD i 0)
    rw [hv.2.1 i (by omega), List.getD_eq_getElem?_getD, List.getD_eq_getElem?_getD, List.getElem?_take_of_lt hi]
theorem cs_fr.sc {h h2 : nd_H} (f : cs_fr 1 h h2) (hs : cw_S h) : cw_S h2 := hs.kp (fun a ha => f.2 a (by unfold cw_sc at ha; omega))
theorem cs_fr.fr {h h2 : nd_H} (f : cs_fr 1 h h2) : cw_fr h h2 := ⟨by rw [f.1]; exact Nat.le_refl _, fun a h1 h2 => f.2 a (by omega)⟩
theorem cp_shake (hg : nd_OK g) (hd : 8 ≤ d) : cp_ok g mX1_shake d 10 60 [] (ex1 eISE) (mp_i (op_shake)) := by
  intro S h K hS hI hl123 hk0 hk1
  obtain ⟨hs, o, nap, ds, gi, dss, hK⟩ := hI
  obtain ⟨⟨x0, hO⟩, h17, hkk, -⟩ := id hK
  unfold cx_O at hO
  have hok := sy_l_ok hS
  have hwd := lk_width hok
  have hn : sy_n S ≤ 6 := hS.1.1.1
  have h5 := sy_len5 hS
  obtain ⟨sfr, sbk, sfo, smn, hSt, hcv⟩ := id hkk.2.1
  obtain ⟨hSt1, hSt2, hSt3, hSt4⟩ := id hSt
  have hcv : cs_v sfr sbk sfo smn (sy_c S) := hcv
  have hsv : sv_ok (sy_n S) (sy_c S) := hS.1.2.1
  unfold mp_i op_shake at hk0 hk1
  obtain ⟨hv1, -⟩ := id hcv
  subst hv1
  refine nd_enter hg (by decide) rfl (Nat.le_of_ble_eq_true rfl) (fun X hC => ?_)
  refine nd_aload_n hC dX1_shake_0 rfl rfl ?_
  refine nd_get (ci := nX1) hC in_X1 rfl hO 0 (by decide) q384 (fun _ z => z) rfl dX1_shake_1 ?_
  refine nd_getN (ci := nX2) hC in_X2 rfl hSt1 4 (by decide) q310 (fun _ z => z) rfl dX1_shake_4 ?_
  refine nd_if_le hC (tgt := 14) dX1_shake_7 (by decide) (fun hq => ?_) (fun hq => ?_)
  · have hz : (sy_c S).1.length = 0 := by
      rw [Int32.le_iff_toInt_le, nI_toInt (by omega), Int32.toInt_zero] at hq
      omega
    rw [if_pos hz] at hk1
    refine nd_iconst hC (v := nI 0) (by rfl) dX1_shake_14 ?_
    refine nd_v_eq (y := .int (nd_b false)) (by rfl) ?_
    refine nd_callS (mm2 := mX1_can) (As := [_]) (mc2 := 1) (ms2 := 6) (d2 := d - 1) hC rfl lkX1_303 lmX1_can (Nat.le_of_ble_eq_true rfl) (by omega) rfl (by exact Nat.le_of_ble_eq_true rfl) (by omega) (by omega) dX1_shake_15 rfl ((ci_can hg (fun hc => nomatch hc) (fun hc n => ?_)))
    exact nd_out hC rfl (by omega) (by omega) (hk1 (Nat.succ_ne_zero _) _ _ ⟨hs.app, o, nap, ds, gi, dss, hK.f cw_f.rfl.app⟩ (cw_f.rfl.app.fr hl123))
  have hz : (sy_c S).1.length ≠ 0 := by
    rw [Int32.le_iff_toInt_le, nI_toInt (by omega), Int32.toInt_zero] at hq
    omega
  rw [if_neg hz] at hk0
  refine nd_iconst hC (v := nI 1) (by rfl) dX1_shake_10 ?_
  refine nd_goto hC (tgt := 15) dX1_shake_11 (by decide) ?_
  refine nd_v_eq (y := .int (nd_b true)) (by rfl) ?_
  refine nd_callS (mm2 := mX1_can) (As := [_]) (mc2 := 1) (ms2 := 6) (d2 := d - 1) hC rfl lkX1_303 lmX1_can (Nat.le_of_ble_eq_true rfl) (by omega) rfl (by exact Nat.le_of_ble_eq_true rfl) (by omega) (by omega) dX1_shake_15 rfl ((ci_can hg (fun hc => ?_) (fun hc n => nomatch hc)))
  refine nd_aload_n hC dX1_shake_18 rfl rfl ?_
  refine nd_callV (mm2 := mX1_notes) (As := []) (mc2 := 9) (ms2 := 48) (d2 := d - 1) hC rfl lkX1_297 ⟨rfl, lmX1_notes⟩ (hO) rfl (Nat.le_of_ble_eq_true rfl) (by omega) rfl (by exact Nat.le_of_ble_eq_true rfl) (by omega) (by omega) dX1_shake_19 rfl ((cx_notes hg (by omega) ⟨hs, o, nap, ds, gi, dss, hK⟩ hS hl123 ?_))
  intro h2 hI2 fr2
  obtain ⟨hs2, o2, nap2, ds2, gi2, dss2, hK2⟩ := hI2
  obtain ⟨⟨x2, hO2⟩, -, hkk2, -⟩ := id hK2
  unfold cx_O at hO2
  obtain ⟨sfr2, sbk2, sfo2, smn2, hT, hv⟩ := id hkk2.2.1
  have hT1 := hT.1
  obtain ⟨hv1, -⟩ := id hv
  subst hv1
  refine nd_aload_n hC dX1_shake_22 rfl rfl ?_
  refine nd_get (ci := nX1) hC in_X1 rfl hO2 0 (by decide) q384 (fun _ z => z) rfl dX1_shake_23 ?_
  refine nd_getN (ci := nX2) hC in_X2 rfl hT1 4 (by decide) q310 (fun _ z => z) rfl dX1_shake_26 ?_
  refine nd_istore_n hC dX1_shake_29 (Nat.le_of_ble_eq_true rfl) ?_
  refine nd_aload_n hC dX1_shake_30 rfl rfl ?_
  refine nd_get (ci := nX1) hC in_X1 rfl hO2 0 (by decide) q384 (fun _ z => z) rfl dX1_shake_31 ?_
  refine nd_iconst hC (v := nI 0) (by rfl) dX1_shake_34 ?_
  refine cs_putMN hC hT1 q310 dX1_shake_35 ?_
  have f3 : cs_fr 1 h2 _ := cs_fr.set (b := 1) (c := .inr (nX2, [.ref nap2, .ref (1 + 5), .ref (1 + 6), .ref (1 + 7), .int (nI 0)])) (Or.inl rfl)
  have s3 := hT.cut (k := 0) hv (Nat.zero_le _)
  have hK3 := hK2.st f3 s3
  refine nd_iload_n hC dX1_shake_38 rfl ?_
  refine nd_ireturn hC rfl (by first | rfl | exact nd_b_nar _) (by omega) (by omega) dX1_shake_39 ((hk0 rfl _ ⟨f3.sc hs2, o2, nap2, ds2, gi2, dss2, hK3⟩ (fr2.trans f3.fr)))
theorem cp_unfold (hg : nd_OK g) (hd : 8 ≤ d) : cp_ok g mX1_unfold d 10 60 [] (ex1 eISE) (mp_i (op_unfold)) := by
  intro S h K hS hI hl123 hk0 hk1
  obtain ⟨hs, o, nap, ds, gi, dss, hK⟩ := hI
  obtain ⟨⟨x0, hO⟩, h17, hkk, -⟩ := id hK
  unfold cx_O at hO
  have hok := sy_l_ok hS
  have hwd := lk_width hok
  have hn : sy_n S ≤ 6 := hS.1.1.1
  have h5 := sy_len5 hS
  obtain ⟨sfr, sbk, sfo, smn, hSt, hcv⟩ := id hkk.2.1
  obtain ⟨hSt1, hSt2, hSt3, hSt4⟩ := id hSt
  have hcv : cs_v sfr sbk sfo smn (sy_c S) := hcv
  have hsv : sv_ok (sy_n S) (sy_c S) := hS.1.2.1
  unfold mp_i op_unfold at hk0 hk1
  obtain ⟨hv1, -⟩ := id hcv
  subst hv1
  refine nd_enter hg (by decide) rfl (Nat.le_of_ble_eq_true rfl) (fun X hC => ?_)
  refine nd_aload_n hC dX1_unfold_0 rfl rfl ?_
  refine nd_get (ci := nX1) hC in_X1 rfl hO 0 (by decide) q384 (fun _ z => z) rfl dX1_unfold_1 ?_
  refine nd_getN (ci := nX2) hC in_X2 rfl hSt1 4 (by decide) q310 (fun _ z => z) rfl dX1_unfold_4 ?_
  refine nd_if_le hC (tgt := 14) dX1_unfold_7 (by decide) (fun hq => ?_) (fun hq => ?_)
  · have hz : (sy_c S).1.length = 0 := by
      rw [Int32.le_iff_toInt_le, nI_toInt (by omega), Int32.toInt_zero] at hq
      omega
    rw [if_pos hz] at hk1
    refine nd_iconst hC (v := nI 0) (by rfl) dX1_unfold_14 ?_
    refine nd_v_eq (y := .int (nd_b false)) (by rfl) ?_
    refine nd_callS (mm2 := mX1_can) (As := [_]) (mc2 := 1) (ms2 := 6) (d2 := d - 1) hC rfl lkX1_303 lmX1_can (Nat.le_of_ble_eq_true rfl) (by omega) rfl (by exact Nat.le_of_ble_eq_true rfl) (by omega) (by omega) dX1_unfold_15 rfl ((ci_can hg (fun hc => nomatch hc) (fun hc n => ?_)))
    exact nd_out hC rfl (by omega) (by omega) (hk1 (Nat.succ_ne_zero _) _ _ ⟨hs.app, o, nap, ds, gi, dss, hK.f cw_f.rfl.app⟩ (cw_f.rfl.app.fr hl123))
  have hz : (sy_c S).1.length ≠ 0 := by
    rw [Int32.le_iff_toInt_le, nI_toInt (by omega), Int32.toInt_zero] at hq
    omega
  rw [if_neg hz] at hk0
  refine nd_iconst hC (v := nI 1) (by rfl) dX1_unfold_10 ?_
  refine nd_goto hC (tgt := 15) dX1_unfold_11 (by decide) ?_
  refine nd_v_eq (y := .int (nd_b true)) (by rfl) ?_
  refine nd_callS (mm2 := mX1_can) (As := [_]) (mc2 := 1) (ms2 := 6) (d2 := d - 1) hC rfl lkX1_303 lmX1_can (Nat.le_of_ble_eq_true rfl) (by omega) rfl (by exact Nat.le_of_ble_eq_true rfl) (by omega) (by omega) dX1_unfold_15 rfl ((ci_can hg (fun hc => ?_) (fun hc n => nomatch hc)))
  refine nd_aload_n hC dX1_unfold_18 rfl rfl ?_
  refine nd_callV (mm2 := mX1_notes) (As := []) (mc2 := 9) (ms2 := 48) (d2 := d - 1) hC rfl lkX1_297 ⟨rfl, lmX1_notes⟩ (hO) rfl (Nat.le_of_ble_eq_true rfl) (by omega) rfl (by exact Nat.le_of_ble_eq_true rfl) (by omega) (by omega) dX1_unfold_19 rfl ((cx_notes hg (by omega) ⟨hs, o, nap, ds, gi, dss, hK⟩ hS hl123 ?_))
  intro h2 hI2 fr2
  obtain ⟨hs2, o2, nap2, ds2, gi2, dss2, hK2⟩ := hI2
  obtain ⟨⟨x2, hO2⟩, -, hkk2, -⟩ := id hK2
  unfold cx_O at hO2
  obtain ⟨sfr2, sbk2, sfo2, smn2, hT, hv⟩ := id hkk2.2.1
  have hT1 := hT.1
  obtain ⟨hv1, -⟩ := id hv
  subst hv1
  refine nd_aload_n hC dX1_unfold_22 rfl rfl ?_
  refine nd_get (ci := nX1) hC in_X1 rfl hO2 0 (by decide) q384 (fun _ z => z) rfl dX1_unfold_23 ?_
  refine nd_dup hC (by rfl) dX1_unfold_26 ?_
  refine nd_getN (ci := nX2) hC in_X2 rfl hT1 4 (by decide) q310 (fun _ z => z) rfl dX1_unfold_27 ?_
  refine nd_iconst hC (v := nI 1) (by rfl) dX1_unfold_30 ?_
  refine nd_isub hC dX1_unfold_31 ?_
  refine nd_v_eq (y := .int (nI ((sy_c S).1.length - 1))) (by
    show Value.int (nI (sy_c S).1.length - nI 1) = _
    congr 1
    apply Int32.toInt_inj.1
    rw [nd_ti (by omega) (by omega), nI_toInt (by omega)]
    omega) ?_
  refine cs_putMN hC hT1 q310 dX1_unfold_32 ?_
  have f3 : cs_fr 1 h2 _ := cs_fr.set (b := 1) (c := .inr (nX2, [.ref nap2, .ref (1 + 5), .ref (1 + 6), .ref (1 + 7), .int (nI ((sy_c S).1.length - 1))])) (Or.inl rfl)
  have s3 := hT.cut (k := (sy_c S).1.length - 1) hv (Nat.sub_le _ _)
  generalize z3 : h2.set 1 (.inr (nX2, [.ref nap2, .ref (1 + 5), .ref (1 + 6), .ref (1 + 7), .int (nI ((sy_c S).1.length - 1))])) = h3
  rw [z3] at f3 s3
  have e3 : dd_do (sy_c S) 100 = ((sy_c S).1.take ((sy_c S).1.length - 1), (sy_c S).2.1, (sy_c S).2.2) := by rw [← List.dropLast_eq_take]; rfl
  have hK3 : cw_K o2 nap2 ds2 gi2 dss2 (sy_dd S 100) h3 := by
    show cw_K o2 nap2 ds2 gi2 dss2 (sy_st (sy_set S (sy_kp S)) (dd_do (sy_c S) 100)) h3
    rw [e3]
    exact hK2.st f3 s3
  have hs3 := f3.sc hs2
  have hS3 := sy_dd_ok hS (dd_why_un (Or.inl rfl) hz)
  have hw3 := lk_width (sy_l_ok hS3)
  obtain ⟨⟨x3, hO3⟩, -⟩ := id hK3
  unfold cx_O at hO3
  refine nd_aload_n hC dX1_unfold_35 rfl rfl ?_
  refine nd_callV (mm2 := mX1_now) (As := []) (mc2 := 0) (ms2 := 0) (d2 := d - 1) hC rfl lkX1_161 ⟨rfl, lmX1_now⟩ (hO3) rfl (Nat.le_of_ble_eq_true rfl) (by omega) rfl (by exact Nat.le_of_ble_eq_true rfl) (by omega) (by omega) dX1_unfold_36 rfl ((cw_now hg (by omega) hS3 hs3 hK3 (fun h4 R hR f4 hs4 hK4 hl4 => ?_)))
  obtain ⟨w, hi, co, hL, hw, hcl⟩ := id hl4
  subst hw
  refine nd_getN (ci := nX4) hC in_X4 rfl hL.1 2 (by decide) q344 (fun _ z => z) rfl dX1_unfold_39 ?_
  refine nd_ireturn hC rfl (by first | rfl | exact nd_b_nar _) (by omega) (by omega) dX1_unfold_42 ((hk0 rfl _ ⟨hs4, o2, nap2, ds2, gi2, dss2, hK4⟩ (fr2.trans (f3.fr.trans (f4.fr (by have := fr2.1; rw [f3.1]; omega))))))
end CP69

