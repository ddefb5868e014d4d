set_option maxRecDepth 100000
/-! ===== whyFold, fold ===== -/
section CP70
variable {g : nd_G} {d : Nat} {K : nd_K} {h : nd_H} {o : Nat → Nat} {nap : Nat} {ds : List Nat} {gi : Nat → Value} {dss : Nat → List Nat} {S : sy_S}
def wf_c (l : List (List Nat)) (x y : Int64) : Bool := decide (1 ≤ x.toInt ∧ x.toInt ≤ (l.length : Int) - 1) && (decide (lN 0 ≤ y) && decide (y ≤ lN 3))
theorem cx_whyFold (hg : nd_OK g) (hd : 5 ≤ d) (hS : sy_ok S) (hs : cw_S h) (hK : cw_K o nap ds gi dss S h) {a : Nat} {s : sv} (ha : a = 1 ∨ a = 9) (hs0 : cs_st h a nap s) (hv : sv_ok (sy_n S) s) {x y : Int64} (hk : ∀ h2, ck_fr 72 18 h h2 → cw_f h h2 → cw_S h2 → cw_K o nap ds gi dss S h2 → K (.inl (some (.int (nd_b (!wf_c (lk_run (lk_flat (sy_n S)) s.1) x y))))) h2) : nd_M g mX1_whyFold d 0 0 [.ref 0, .ref a, .long x, .long y] h K := by
  obtain ⟨⟨x0, hO⟩, h17, hkk, -, -, -, -, -, -, -, a12⟩ := id hK
  unfold cx_O at hO
  obtain ⟨fr, bk, fo, mn, hSt, hcv⟩ := id hs0
  have hn : sy_n S ≤ 6 := hS.1.1.1
  have hok := lk_run_ok _ (lk_flat_ok (sy_n S)) hv.1
  have hwd := lk_width hok
  have a3 := hs.1
  refine nd_enter hg (by decide) rfl (Nat.le_of_ble_eq_true rfl) (fun X hC => ?_)
  refine nd_aload_n hC dX1_whyFold_0 rfl rfl ?_
  refine nd_aload_n hC dX1_whyFold_1 rfl rfl ?_
  refine nd_get (ci := nX1) hC in_X1 rfl hO 2 (by decide) q387 (fun _ z => z) rfl dX1_whyFold_2 ?_
  refine nd_bipush hC (v := nI 6) (by rfl) dX1_whyFold_5 ?_
  refine nd_aaloadN hC rfl rfl h17 (by omega) (by omega) dX1_whyFold_7 ?_
  refine nd_aload_n hC dX1_whyFold_8 rfl rfl ?_
  refine nd_get (ci := nX1) hC in_X1 rfl hO 2 (by decide) q387 (fun _ z => z) rfl dX1_whyFold_9 ?_
  refine nd_bipush hC (v := nI 7) (by rfl) dX1_whyFold_12 ?_
  refine nd_aaloadN hC rfl rfl h17 (by omega) (by omega) dX1_whyFold_14 ?_
  refine nd_callV (mm2 := mX2_lies) (As := [_, _]) (mc2 := 0) (ms2 := 0) (d2 := d - 1) hC rfl lkX1_157 ⟨rfl, lmX2_lies⟩ (hSt.1) rfl (Nat.le_of_ble_eq_true rfl) (by omega) rfl (by exact Nat.le_of_ble_eq_true rfl) (by omega) (by omega) dX1_whyFold_15 rfl ((cs_lies (A := 72) hg (by omega) hs0 hkk.1.c hn hv.1 (a3 6 (by omega)) (a3 7 (by omega)) (by omega) (fun a ha => by have := a12 a (by omega); omega) (fun h2 R hR f hl q1 q2 => ?_)))
  have f2 : cw_f h h2 := f.cwf (fun a h1 h2 => by unfold cw_sc; omega)
  have hs2 : cw_S h2 := by
    refine ⟨fun k hk => ?_, ?_, ?_, ?_⟩
    · by_cases e6 : k = 6
      · subst e6; exact q1
      · by_cases e7 : k = 7
        · subst e7; exact q2
        · exact (a3 k hk).fr f (by omega)
    · obtain ⟨tl, e⟩ := hs.2.1
      exact ⟨tl, (f.2 _ (by omega)).trans e⟩
    · obtain ⟨n2, fr, bk, fo, mn, e⟩ := hs.2.2.1
      exact ⟨n2, fr, bk, fo, mn, e.fr f (by omega)⟩
    · obtain ⟨cf, e⟩ := hs.2.2.2
      exact ⟨cf, (f.2 _ (by omega)).trans e⟩
  have R0 := hk h2 f f2 hs2 (hK.f f2)
  unfold wf_c at R0
  have hl : ck_lk h2 R (lk_run (lk_flat (sy_n S)) s.1) := hl
  obtain ⟨w, hi, co, hL, hw, hcl⟩ := id hl
  refine nd_lload_n hC dX1_whyFold_18 rfl ?_
  refine nd_callV (mm2 := mX4_isLine) (As := [_]) (mc2 := 0) (ms2 := 0) (d2 := d - 1) hC rfl lkX1_288 ⟨rfl, lmX4_isLine⟩ (hL.1) rfl (Nat.le_of_ble_eq_true rfl) (by omega) rfl (by exact Nat.le_of_ble_eq_true rfl) (by omega) (by omega) dX1_whyFold_19 rfl ((cl_isLine hg (by omega) hl (by omega) ?_))
  by_cases z1 : (1 ≤ x.toInt ∧ x.toInt ≤ ((lk_run (lk_flat (sy_n S)) s.1).length : Int) - 1)
  · rw [decide_eq_true z1] at R0 ⊢
    first | with_reducible refine nd_if_eqB hC (tgt := 41) dX1_whyFold_22 (by decide) (fun hq => ?_) (fun hq => ?_) | with_reducible refine nd_if_eqN hC (tgt := 41) (by omega) dX1_whyFold_22 (by decide) (fun hq => ?_) (fun hq => ?_) | refine nd_if_eq hC (tgt := 41) dX1_whyFold_22 (by decide) (fun hq => ?_) (fun hq => ?_)
    · exact absurd hq (by decide)
    refine nd_lload hC dX1_whyFold_25 rfl ?_
    refine nd_lconst hC (v := lN 0) (by rfl) dX1_whyFold_27 ?_
    refine nd_ldc2 hC q632 dX1_whyFold_28 ?_
    refine nd_v_eq (y := .long (lN 3)) (by rfl) ?_
    refine nd_callS (mm2 := mX1_isIn) (As := [_, _, _]) (mc2 := 0) (ms2 := 0) (d2 := d - 1) hC rfl lkX1_106 lmX1_isIn (Nat.le_of_ble_eq_true rfl) (by omega) rfl (by exact Nat.le_of_ble_eq_true rfl) (by omega) (by omega) dX1_whyFold_31 rfl ((ci_isIn hg ?_))
    rw [Bool.true_and] at R0
    generalize (decide (lN 0 ≤ y) && decide (y ≤ lN 3)) = b at R0 ⊢
    first | with_reducible refine nd_if_eqB hC (tgt := 41) dX1_whyFold_34 (by decide) (fun hq2 => ?_) (fun hq2 => ?_) | with_reducible refine nd_if_eqN hC (tgt := 41) (by omega) dX1_whyFold_34 (by decide) (fun hq2 => ?_) (fun hq2 => ?_) | refine nd_if_eq hC (tgt := 41) dX1_whyFold_34 (by decide) (fun hq2 => ?_) (fun hq2 => ?_)
    · cases b with
      | true => exact absurd hq2 (by decide)
      | false =>
        refine nd_iconst hC (v := nI 1) (by rfl) dX1_whyFold_41 ?_
        refine nd_ireturn hC rfl (by first | rfl | exact nd_b_nar _) (by omega) (by omega) dX1_whyFold_42 (R0)
    · cases b with
      | false => exact absurd hq2 (by decide)
      | true =>
        refine nd_iconst hC (v := nI 0) (by rfl) dX1_whyFold_37 ?_
        refine nd_goto hC (tgt := 42) dX1_whyFold_38 (by decide) ?_
        refine nd_ireturn hC rfl (by first | rfl | exact nd_b_nar _) (by omega) (by omega) dX1_whyFold_42 (R0)
  · rw [decide_eq_false z1] at R0 ⊢
    rw [Bool.false_and] at R0
    first | with_reducible refine nd_if_eqB hC (tgt := 41) dX1_whyFold_22 (by decide) (fun hq => ?_) (fun hq => ?_) | with_reducible refine nd_if_eqN hC (tgt := 41) (by omega) dX1_whyFold_22 (by decide) (fun hq => ?_) (fun hq => ?_) | refine nd_if_eq hC (tgt := 41) dX1_whyFold_22 (by decide) (fun hq => ?_) (fun hq => ?_)
    · refine nd_iconst hC (v := nI 1) (by rfl) dX1_whyFold_41 ?_
      refine nd_ireturn hC rfl (by first | rfl | exact nd_b_nar _) (by omega) (by omega) dX1_whyFold_42 (R0)
    · exact absurd hq (by decide)

theorem cp_fold (hg : nd_OK g) (hd : 8 ≤ d) (x y : Int32) : cp_ok g mX1_fold d 10 60 [.int x, .int y] (ex1 eISE) (mp_i (op_fold x y)) := by
  intro S h K hS hI hl123 hk0 hk1
  obtain ⟨hs, o, nap, ds, gi, dss, hK⟩ := hI
  obtain ⟨⟨x0, hO⟩, h17, hkk, -⟩ := id hK
  unfold cx_O at hO
  have hok := sy_l_ok hS
  have hwd := lk_width hok
  have hn : sy_n S ≤ 6 := hS.1.1.1
  have h5 := sy_len5 hS
  obtain ⟨sfr, sbk, sfo, smn, hSt, hcv⟩ := id hkk.2.1
  obtain ⟨hSt1, hSt2, hSt3, hSt4⟩ := id hSt
  have hcv : cs_v sfr sbk sfo smn (sy_c S) := hcv
  have hsv : sv_ok (sy_n S) (sy_c S) := hS.1.2.1
  unfold mp_i op_fold at hk0 hk1
  obtain ⟨hv1, -⟩ := id hcv
  subst hv1
  have ec : (wf_c (sy_l S) x.toInt64 y.toInt64 = true) ↔ (1 ≤ x.toInt ∧ x.toInt < (sy_l S).length ∧ 0 ≤ y.toInt ∧ y.toInt ≤ 3) := by
    unfold wf_c
    rw [Bool.and_eq_true, Bool.and_eq_true, nd_lle, nd_lle, nd_tl, lN_toInt (by decide), lN_toInt (by decide), decide_eq_true_iff, nd_tl]
    omega
  refine nd_enter hg (by decide) rfl (Nat.le_of_ble_eq_true rfl) (fun X hC => ?_)
  refine nd_aload_n hC dX1_fold_0 rfl rfl ?_
  refine nd_aload_n hC dX1_fold_1 rfl rfl ?_
  refine nd_get (ci := nX1) hC in_X1 rfl hO 0 (by decide) q384 (fun _ z => z) rfl dX1_fold_2 ?_
  refine nd_iload_n hC dX1_fold_5 rfl ?_
  first | with_reducible refine nd_i2lN hC (by omega) dX1_fold_6 ?_ | refine nd_i2l hC dX1_fold_6 ?_
  refine nd_iload_n hC dX1_fold_7 rfl ?_
  first | with_reducible refine nd_i2lN hC (by omega) dX1_fold_8 ?_ | refine nd_i2l hC dX1_fold_8 ?_
  refine nd_callV (mm2 := mX1_whyFold) (As := [_, _, _]) (mc2 := 0) (ms2 := 0) (d2 := d - 1) hC rfl lkX1_293 ⟨rfl, lmX1_whyFold⟩ (hO) rfl (Nat.le_of_ble_eq_true rfl) (by omega) rfl (by exact Nat.le_of_ble_eq_true rfl) (by omega) (by omega) dX1_fold_9 rfl ((cx_whyFold hg (by omega) hS hs hK (Or.inl rfl) hkk.2.1 hsv ?_))
  intro h2 f fw hs2 hK2
  show nd_W g mX1_fold _ _ _ _ _ _ _ [.int (nd_b (!wf_c (sy_l S) x.toInt64 y.toInt64))] h2 _ _
  refine nd_istore_n hC dX1_fold_12 (Nat.le_of_ble_eq_true rfl) ?_
  refine nd_iload_n hC dX1_fold_13 rfl ?_
  by_cases hz : 1 ≤ x.toInt ∧ x.toInt < (sy_l S).length ∧ 0 ≤ y.toInt ∧ y.toInt ≤ 3
  · rw [if_pos hz] at hk0
    rw [ec.2 hz]
    first | with_reducible refine nd_if_eqB hC (tgt := 20) dX1_fold_14 (by decide) (fun hq => ?_) (fun hq => ?_) | with_reducible refine nd_if_eqN hC (tgt := 20) (by omega) dX1_fold_14 (by decide) (fun hq => ?_) (fun hq => ?_) | refine nd_if_eq hC (tgt := 20) dX1_fold_14 (by decide) (fun hq => ?_) (fun hq => ?_)
    · have hx : op_in x 0 6 = true := by
        unfold op_in
        rw [decide_eq_true_iff]
        omega
      have hy : op_in y 0 3 = true := by
        unfold op_in
        rw [decide_eq_true_iff]
        omega
      obtain ⟨k, hk6, rfl⟩ := op_in_nat hx
      obtain ⟨m, hm3, rfl⟩ := op_in_nat hy
      rw [nI_toInt (by omega), nI_toInt (by omega)] at hk0 hz
      have hS3 := sy_dd_ok hS (dd_why_fold (x := k) (y := m) (by omega) (by omega) (by omega) (by omega))
      have e3 : dd_do (sy_c S) (10 * (k : Int) + m) = ((sy_c S).1 ++ [10 * k + m], (sy_c S).2.1, (sy_c S).2.2) := by
        unfold dd_do
        rw [if_neg (by omega), if_pos (by omega), show (10 * (k : Int) + m).toNat = 10 * k + m by omega]
      have h55 : ((sy_c S).1 ++ [10 * k + m]).length ≤ 5 := by
        have z := sy_len5 hS3
        show (((sy_c S).1 ++ [10 * k + m], (sy_c S).2.1, (sy_c S).2.2) : sv).1.length ≤ 5
        rw [← e3]; exact z
      rw [List.length_append] at h55
      have h55 : (sy_c S).1.length + 1 ≤ 5 := h55
      obtain ⟨⟨x2, hO2⟩, -⟩ := id hK2
      unfold cx_O at hO2
      refine nd_aload_n hC dX1_fold_20 rfl rfl ?_
      refine nd_callV (mm2 := mX1_notes) (As := []) (mc2 := 9) (ms2 := 48) (d2 := d - 1) hC rfl lkX1_297 ⟨rfl, lmX1_notes⟩ (hO2) rfl (Nat.le_of_ble_eq_true rfl) (by omega) rfl (by exact Nat.le_of_ble_eq_true rfl) (by omega) (by omega) dX1_fold_21 rfl ((cx_notes hg (by omega) ⟨hs2, o, nap, ds, gi, dss, hK2⟩ hS (by have := fw.1; omega) ?_))
      intro h3 hI3 fr3
      obtain ⟨hs3, o3, nap3, ds3, gi3, dss3, hK3⟩ := hI3
      obtain ⟨⟨x3, hO3⟩, -, hkk3, -⟩ := id hK3
      unfold cx_O at hO3
      obtain ⟨sfr3, sbk3, sfo3, smn3, hT, hv⟩ := id hkk3.2.1
      refine nd_aload_n hC dX1_fold_24 rfl rfl ?_
      refine nd_get (ci := nX1) hC in_X1 rfl hO3 0 (by decide) q384 (fun _ z => z) rfl dX1_fold_25 ?_
      refine nd_iload_n hC dX1_fold_28 rfl ?_
      refine nd_iload_n hC dX1_fold_29 rfl ?_
      refine nd_callV (mm2 := mX2_folds) (As := [_, _]) (mc2 := 0) (ms2 := 0) (d2 := d - 1) hC rfl lkX1_300 ⟨rfl, lmX2_folds⟩ (hT.1) rfl (Nat.le_of_ble_eq_true rfl) (by omega) rfl (by exact Nat.le_of_ble_eq_true rfl) (by omega) (by omega) dX1_fold_30 rfl ((cs_folds hg hkk3.2.1 h55 ?_))
      intro h4 f4 s4
      have hK4 : cw_K o3 nap3 ds3 gi3 dss3 (sy_dd S (10 * (k : Int) + m)) h4 := by
        show cw_K o3 nap3 ds3 gi3 dss3 (sy_st (sy_set S (sy_kp S)) (dd_do (sy_c S) (10 * (k : Int) + m))) h4
        rw [e3]
        exact hK3.st f4 s4
      have hs4 := f4.sc hs3
      obtain ⟨⟨x4, hO4⟩, -⟩ := id hK4
      unfold cx_O at hO4
      refine nd_aload_n hC dX1_fold_33 rfl rfl ?_
      refine nd_callV (mm2 := mX1_now) (As := []) (mc2 := 0) (ms2 := 0) (d2 := d - 1) hC rfl lkX1_161 ⟨rfl, lmX1_now⟩ (hO4) rfl (Nat.le_of_ble_eq_true rfl) (by omega) rfl (by exact Nat.le_of_ble_eq_true rfl) (by omega) (by omega) dX1_fold_34 rfl ((cw_now hg (by omega) hS3 hs4 hK4 (fun h5 R hR f5 hs5 hK5 hl5 => ?_)))
      obtain ⟨w, hi, co, hL, hw, hcl⟩ := id hl5
      subst hw
      refine nd_getN (ci := nX4) hC in_X4 rfl hL.1 2 (by decide) q344 (fun _ z => z) rfl dX1_fold_37 ?_
      refine nd_ireturn hC rfl (by first | rfl | exact nd_b_nar _) (by omega) (by omega) dX1_fold_40 ((hk0 rfl _ ⟨hs5, o3, nap3, ds3, gi3, dss3, hK5⟩ ((fw.fr hl123).trans (fr3.trans (f4.fr.trans (f5.fr (by have := fr3.1; have := fw.1; rw [f4.1]; omega)))))))
    · exact absurd hq (by decide)
  · rw [if_neg hz] at hk0
    rw [Bool.eq_false_iff.2 (fun q => hz (ec.1 q))]
    first | with_reducible refine nd_if_eqB hC (tgt := 20) dX1_fold_14 (by decide) (fun hq => ?_) (fun hq => ?_) | with_reducible refine nd_if_eqN hC (tgt := 20) (by omega) dX1_fold_14 (by decide) (fun hq => ?_) (fun hq => ?_) | refine nd_if_eq hC (tgt := 20) dX1_fold_14 (by decide) (fun hq => ?_) (fun hq => ?_)
    · exact absurd hq (by decide)
    · refine nd_iload_n hC dX1_fold_17 rfl ?_
      refine nd_ineg hC dX1_fold_18 ?_
      refine nd_ireturn hC rfl (by first | rfl | exact nd_b_nar _) (by omega) (by omega) dX1_fold_19 ((hk0 rfl h2 ⟨hs2, o, nap, ds, gi, dss, hK2⟩ (fw.fr hl123)))
end CP70

