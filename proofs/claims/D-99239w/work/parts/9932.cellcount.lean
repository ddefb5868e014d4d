set_option maxRecDepth 100000
/-! ===== cell, count ===== -/
section CP32
variable {g : nd_G} {d : Nat} {K : nd_K} {h : nd_H} {o : Nat → Nat} {nap : Nat} {ds : List Nat} {gi : Nat → Value} {dss : Nat → List Nat} {S : sy_S}
theorem cp_cell (hg : nd_OK g) (hd : 6 ≤ d) (x y : Int32) : cp_ok g mX1_cell d 2 12 [.int x, .int y] (ex2 eNSE eIAE) (mp_i (op_cell x y)) := by
  intro S h K hS hI hl123 hk0 hk1
  obtain ⟨hs, o, nap, ds, gi, dss, hK⟩ := hI
  obtain ⟨⟨x0, hO⟩, h17, hkk, -⟩ := id hK
  unfold cx_O at hO
  have hok := sy_l_ok hS
  have hwd := lk_width hok
  have hn : sy_n S ≤ 6 := hS.1.1.1
  have h5 := sy_len5 hS
  obtain ⟨sfr, sbk, sfo, smn, hSt, hcv⟩ := id hkk.2.1
  obtain ⟨hSt1, hSt2, hSt3, hSt4⟩ := id hSt
  have hcv : cs_v sfr sbk sfo smn (sy_c S) := hcv
  have hsv : sv_ok (sy_n S) (sy_c S) := hS.1.2.1
  unfold mp_i op_cell at hk0 hk1
  obtain ⟨fa, ba, ga, m9, ed9, wv, kv, hv9, hn1, hn2, hN3, hN4, -⟩ := id hkk.1
  refine nd_enter hg (by decide) rfl (Nat.le_of_ble_eq_true rfl) (fun X hC => ?_)
  refine nd_aload_n hC dX1_cell_0 rfl rfl ?_
  refine nd_get (ci := nX1) hC in_X1 rfl hO 0 (by decide) q384 (fun _ z => z) rfl dX1_cell_1 ?_
  refine nd_getN (ci := nX2) hC in_X2 rfl hSt1 0 (by decide) q301 (fun _ z => z) rfl dX1_cell_4 ?_
  refine nd_iload_n hC dX1_cell_7 rfl ?_
  first | with_reducible refine nd_i2lN hC (by omega) dX1_cell_8 ?_ | refine nd_i2l hC dX1_cell_8 ?_
  refine nd_callV (mm2 := mX3_isCell) (As := [_]) (mc2 := 0) (ms2 := 0) (d2 := d - 1) hC rfl lkX1_171 ⟨rfl, lmX3_isCell⟩ (hN3) rfl (Nat.le_of_ble_eq_true rfl) (by omega) rfl (by exact Nat.le_of_ble_eq_true rfl) (by omega) (by omega) dX1_cell_9 rfl ((cn_isCell hg (by omega) hkk.1.c hn ?_))
  have e : decide (0 ≤ x.toInt64.toInt ∧ x.toInt64.toInt ≤ (sy_n S : Int) - 1) = op_in x 0 ((sy_n S : Int) - 1) := by
    unfold op_in
    rw [nd_tl]
  rw [e]
  refine nd_callS (mm2 := mX1_there) (As := [_]) (mc2 := 1) (ms2 := 6) (d2 := d - 1) hC rfl lkX1_168 lmX1_there (Nat.le_of_ble_eq_true rfl) (by omega) rfl (by exact Nat.le_of_ble_eq_true rfl) (by omega) (by omega) dX1_cell_12 rfl ((ci_there hg (fun hc => ?_) (fun hc n => ?_)))
  · rw [if_pos hc] at hk0 hk1
    obtain ⟨k, hk9, rfl⟩ := op_in_nat hc
    rw [nI_cl (by omega)] at hk0 hk1
    obtain ⟨xx, t, i, hx, ex⟩ := lk_there hok (c := k) (by omega)
    have hpe := lk_pos_eq hok hx
    rw [ex] at hpe
    have b1 := lk_at_lt hok hn hx
    rw [hpe] at hk0
    refine nd_aload_n hC dX1_cell_15 rfl rfl ?_
    refine nd_callV (mm2 := mX1_now) (As := []) (mc2 := 0) (ms2 := 0) (d2 := d - 1) hC rfl lkX1_161 ⟨rfl, lmX1_now⟩ (hO) rfl (Nat.le_of_ble_eq_true rfl) (by omega) rfl (by exact Nat.le_of_ble_eq_true rfl) (by omega) (by omega) dX1_cell_16 rfl ((cw_now hg (by omega) hS hs hK (fun h2 R hR f hs2 hK2 hl => ?_)))
    obtain ⟨⟨x2, hO2⟩, -, hkk2, -⟩ := id hK2
    unfold cx_O at hO2
    obtain ⟨sfr2, sbk2, sfo2, smn2, hS2, hcv2⟩ := id hkk2.2.1
    obtain ⟨hS21, hS22, hS23, hS24⟩ := id hS2
    have hcv2 : cs_v sfr2 sbk2 sfo2 smn2 (sy_c S) := hcv2
    obtain ⟨w, hi, co, hL, hw, hcl⟩ := id hl
    subst hw
    refine nd_astore_n hC dX1_cell_19 (Nat.le_of_ble_eq_true rfl) rfl ?_
    refine nd_iload_n hC dX1_cell_20 rfl ?_
    by_cases hy : op_in y 0 4 = true
    · rw [if_pos hy] at hk0
      obtain ⟨w4, hw4, rfl⟩ := op_in_nat hy
      rw [nI_cl (by omega)] at hk0
      obtain rfl | rfl | rfl | rfl | rfl : w4 = 0 ∨ w4 = 1 ∨ w4 = 2 ∨ w4 = 3 ∨ w4 = 4 := by omega
      · refine nd_tableIn hC (tgt := 56) dX1_cell_21 (by decide) (by decide) (by rfl) (by decide) ?_
        refine nd_aload_n hC dX1_cell_56 rfl rfl ?_
        refine nd_get (ci := nX1) hC in_X1 rfl hO2 0 (by decide) q384 (fun _ z => z) rfl dX1_cell_57 ?_
        refine nd_getN (ci := nX2) hC in_X2 rfl hS21 1 (by decide) q303 (fun _ z => z) rfl dX1_cell_60 ?_
        refine nd_iload_n hC dX1_cell_63 rfl ?_
        refine nd_ialoadN hC hS22 (by omega) (by omega) dX1_cell_64 ?_
        rw [hcv2.2.2.1 k (by rw [hsv.2.1]; omega)]
        refine nd_ireturn hC rfl (by first | rfl | exact nd_b_nar _) (by omega) (by omega) dX1_cell_65 ((hk0 rfl h2 ⟨hs2, o, nap, ds, gi, dss, hK2⟩ (f.fr hl123)))
      · refine nd_tableIn hC (tgt := 66) dX1_cell_21 (by decide) (by decide) (by rfl) (by decide) ?_
        refine nd_aload_n hC dX1_cell_66 rfl rfl ?_
        refine nd_get (ci := nX1) hC in_X1 rfl hO2 0 (by decide) q384 (fun _ z => z) rfl dX1_cell_67 ?_
        refine nd_getN (ci := nX2) hC in_X2 rfl hS21 2 (by decide) q305 (fun _ z => z) rfl dX1_cell_70 ?_
        refine nd_iload_n hC dX1_cell_73 rfl ?_
        refine nd_ialoadN hC hS23 (by omega) (by omega) dX1_cell_74 ?_
        rw [hcv2.2.2.2 k (by rw [hsv.2.2.1]; omega)]
        refine nd_ireturn hC rfl (by first | rfl | exact nd_b_nar _) (by omega) (by omega) dX1_cell_75 ((hk0 rfl h2 ⟨hs2, o, nap, ds, gi, dss, hK2⟩ (f.fr hl123)))
      · refine nd_tableIn hC (tgt := 76) dX1_cell_21 (by decide) (by decide) (by rfl) (by decide) ?_
        refine nd_aload_n hC dX1_cell_76 rfl rfl ?_
        refine nd_iload_n hC dX1_cell_77 rfl ?_
        rw [← ex]
        refine nd_callV (mm2 := mX4_columnOf) (As := [_]) (mc2 := 0) (ms2 := 0) (d2 := d - 1) hC rfl lkX1_182 ⟨rfl, lmX4_columnOf⟩ (hL.1) rfl (Nat.le_of_ble_eq_true rfl) (by omega) rfl (by exact Nat.le_of_ble_eq_true rfl) (by omega) (by omega) dX1_cell_78 rfl ((cl_columnOf hg (by omega) hl hok hn hx ?_))
        rw [ex]
        have e2 : op_place k 2 (16 * t + 2 * i + xx % 2) (sy_c S) = nI t := by
          show nI ((16 * t + 2 * i + xx % 2) / 16) = nI t
          rw [show (16 * t + 2 * i + xx % 2) / 16 = t by omega]
        rw [e2] at hk0
        refine nd_ireturn hC rfl (by first | rfl | exact nd_b_nar _) (by omega) (by omega) dX1_cell_81 ((hk0 rfl h2 ⟨hs2, o, nap, ds, gi, dss, hK2⟩ (f.fr hl123)))
      · refine nd_tableIn hC (tgt := 82) dX1_cell_21 (by decide) (by decide) (by rfl) (by decide) ?_
        refine nd_aload_n hC dX1_cell_82 rfl rfl ?_
        refine nd_iload_n hC dX1_cell_83 rfl ?_
        refine nd_aload_n hC dX1_cell_84 rfl rfl ?_
        refine nd_iload_n hC dX1_cell_85 rfl ?_
        rw [← ex]
        refine nd_callV (mm2 := mX4_columnOf) (As := [_]) (mc2 := 0) (ms2 := 0) (d2 := d - 1) hC rfl lkX1_182 ⟨rfl, lmX4_columnOf⟩ (hL.1) rfl (Nat.le_of_ble_eq_true rfl) (by omega) rfl (by exact Nat.le_of_ble_eq_true rfl) (by omega) (by omega) dX1_cell_86 rfl ((cl_columnOf hg (by omega) hl hok hn hx ?_))
        refine nd_callVN (mm2 := mX4_layerOf) (As := [_, _]) (mc2 := 0) (ms2 := 0) (d2 := d - 1) hC rfl q861 q155 q1961 q860 qs17 lmX4_layerOf (hL.1) rfl (Nat.le_of_ble_eq_true rfl) (by omega) rfl (by exact Nat.le_of_ble_eq_true rfl) (by omega) (by omega) dX1_cell_89 rfl ((cl_layerOf hg hl hok hn hx ?_))
        rw [ex]
        have e2 : op_place k 3 (16 * t + 2 * i + xx % 2) (sy_c S) = nI i := by
          show nI ((16 * t + 2 * i + xx % 2) / 2 % 8) = nI i
          rw [show (16 * t + 2 * i + xx % 2) / 2 % 8 = i by omega]
        rw [e2] at hk0
        refine nd_ireturn hC rfl (by first | rfl | exact nd_b_nar _) (by omega) (by omega) dX1_cell_92 ((hk0 rfl h2 ⟨hs2, o, nap, ds, gi, dss, hK2⟩ (f.fr hl123)))
      · refine nd_tableIn hC (tgt := 93) dX1_cell_21 (by decide) (by decide) (by rfl) (by decide) ?_
        refine nd_aload_n hC dX1_cell_93 rfl rfl ?_
        refine nd_iload_n hC dX1_cell_94 rfl ?_
        rw [← ex]
        refine nd_callV (mm2 := mX4_isUp) (As := [_]) (mc2 := 0) (ms2 := 0) (d2 := d - 1) hC rfl lkX1_190 ⟨rfl, lmX4_isUp⟩ (hL.1) rfl (Nat.le_of_ble_eq_true rfl) (by omega) rfl (by exact Nat.le_of_ble_eq_true rfl) (by omega) (by omega) dX1_cell_95 rfl ((cl_isUp hg (by omega) hl hok hn hx ?_))
        rw [ex]
        have e2 : op_place k 4 (16 * t + 2 * i + xx % 2) (sy_c S) = nI (xx % 2) := by
          show nI ((16 * t + 2 * i + xx % 2) % 2) = nI (xx % 2)
          rw [show (16 * t + 2 * i + xx % 2) % 2 = xx % 2 by omega]
        rw [e2] at hk0
        first | with_reducible refine nd_if_eqB hC (tgt := 105) dX1_cell_98 (by decide) (fun hq => ?_) (fun hq => ?_) | with_reducible refine nd_if_eqN hC (tgt := 105) (by omega) dX1_cell_98 (by decide) (fun hq => ?_) (fun hq => ?_) | refine nd_if_eq hC (tgt := 105) dX1_cell_98 (by decide) (fun hq => ?_) (fun hq => ?_)
        · rw [decide_eq_false_iff_not] at hq
          rw [show xx % 2 = 0 by omega] at hk0
          refine nd_iconst hC (v := nI 0) (by rfl) dX1_cell_105 ?_
          refine nd_ireturn hC rfl (by first | rfl | exact nd_b_nar _) (by omega) (by omega) dX1_cell_106 ((hk0 rfl h2 ⟨hs2, o, nap, ds, gi, dss, hK2⟩ (f.fr hl123)))
        · rw [decide_eq_true_iff] at hq
          rw [hq] at hk0
          refine nd_iconst hC (v := nI 1) (by rfl) dX1_cell_101 ?_
          refine nd_goto hC (tgt := 106) dX1_cell_102 (by decide) ?_
          refine nd_ireturn hC rfl (by first | rfl | exact nd_b_nar _) (by omega) (by omega) dX1_cell_106 ((hk0 rfl h2 ⟨hs2, o, nap, ds, gi, dss, hK2⟩ (f.fr hl123)))
    · rw [if_neg hy] at hk1
      refine nd_tableOut hC (tgt := 107) dX1_cell_21 ?_ (by decide) ?_
      · unfold op_in at hy
        rw [decide_eq_true_iff] at hy
        omega
      · refine nd_throw0 hC (by decide +kernel) (by decide +kernel) q1538 q162 (xa_iae hC) (by decide +kernel) (by decide) (by exact Nat.le_of_ble_eq_true rfl) dX1_cell_107 dX1_cell_110 dX1_cell_111 dX1_cell_114 (by omega) (by omega) (fun n => ?_)
        exact nd_out hC rfl (by omega) (by omega) (hk1 (Nat.succ_ne_zero _) _ _ ⟨hs2.app, o, nap, ds, gi, dss, hK2.f cw_f.rfl.app⟩ (f.app.fr hl123))
  · rw [if_neg (by rw [hc]; decide)] at hk1
    exact nd_out hC rfl (by omega) (by omega) (hk1 (Nat.succ_ne_zero _) _ _ ⟨hs.app, o, nap, ds, gi, dss, hK.f cw_f.rfl.app⟩ (cw_f.rfl.app.fr hl123))
theorem cp_count (hg : nd_OK g) (hd : 6 ≤ d) (x : Int32) : cp_ok g mX1_count d 2 12 [.int x] (ex1 eIAE) (mp_i (op_count x)) := by
  intro S h K hS hI hl123 hk0 hk1
  obtain ⟨hs, o, nap, ds, gi, dss, hK⟩ := hI
  obtain ⟨⟨x0, hO⟩, h17, hkk, -⟩ := id hK
  unfold cx_O at hO
  have hok := sy_l_ok hS
  have hwd := lk_width hok
  have hn : sy_n S ≤ 6 := hS.1.1.1
  have h5 := sy_len5 hS
  obtain ⟨sfr, sbk, sfo, smn, hSt, hcv⟩ := id hkk.2.1
  obtain ⟨hSt1, hSt2, hSt3, hSt4⟩ := id hSt
  have hcv : cs_v sfr sbk sfo smn (sy_c S) := hcv
  have hsv : sv_ok (sy_n S) (sy_c S) := hS.1.2.1
  unfold mp_i op_count at hk0 hk1
  obtain ⟨fa, ba, ga, m9, ed9, wv, kv, hv9, hn1, hn2, hN3, hN4, -⟩ := id hkk.1
  have hl9 : ∃ m ed, h[90]? = some (.inr (nJ2, [.int m, ed, .int (nI (sy_d S).length)])) := by
    have e9 : ds.length = (sy_d S).length := hkk.2.2.2.1
    rcases hkk.2.2.1 with ⟨a1, m, a2⟩ | ⟨m, ed, gf, -, -, a2, -⟩
    · refine ⟨m, nd_f 201, ?_⟩
      rw [← e9, a1]; exact a2
    · exact ⟨m, .ref ed, by rw [← e9]; exact a2⟩
  obtain ⟨m90, ed90, h90⟩ := hl9
  refine nd_enter hg (by decide) rfl (Nat.le_of_ble_eq_true rfl) (fun X hC => ?_)
  refine nd_iload_n hC dX1_count_0 rfl ?_
  by_cases hc : op_in x 0 10 = true
  · rw [if_pos hc] at hk0
    obtain ⟨k, hk1', rfl⟩ := op_in_nat hc
    rw [nI_cl (by omega)] at hk0
    obtain rfl | rfl | rfl | rfl | rfl | rfl | rfl | rfl | rfl | rfl | rfl : k = 0 ∨ k = 1 ∨ k = 2 ∨ k = 3 ∨ k = 4 ∨ k = 5 ∨ k = 6 ∨ k = 7 ∨ k = 8 ∨ k = 9 ∨ k = 10 := by omega
    · refine nd_tableIn hC (tgt := 60) dX1_count_1 (by decide) (by decide) (by rfl) (by decide) ?_
      refine nd_aload_n hC dX1_count_60 rfl rfl ?_
      refine nd_get (ci := nX1) hC in_X1 rfl hO 0 (by decide) q384 (fun _ z => z) rfl dX1_count_61 ?_
      refine nd_getN (ci := nX2) hC in_X2 rfl hSt1 0 (by decide) q301 (fun _ z => z) rfl dX1_count_64 ?_
      refine nd_getN (ci := nX3) hC in_X3 rfl hN3 3 (by decide) q277 (fun _ z => z) rfl dX1_count_67 ?_
      refine nd_ireturn hC rfl (by first | rfl | exact nd_b_nar _) (by omega) (by omega) dX1_count_70 ((hk0 rfl h ⟨hs, o, nap, ds, gi, dss, hK⟩ (cw_f.rfl.fr hl123)))
    · refine nd_tableIn hC (tgt := 71) dX1_count_1 (by decide) (by decide) (by rfl) (by decide) ?_
      refine nd_aload_n hC dX1_count_71 rfl rfl ?_
      refine nd_callV (mm2 := mX1_cells) (As := []) (mc2 := 0) (ms2 := 0) (d2 := d - 1) hC rfl lkX1_214 ⟨rfl, lmX1_cells⟩ (hO) rfl (Nat.le_of_ble_eq_true rfl) (by omega) rfl (by exact Nat.le_of_ble_eq_true rfl) (by omega) (by omega) dX1_count_72 rfl ((cx_cells hg (by omega) (hK.P hs) ?_))
      refine nd_ireturn hC rfl (by first | rfl | exact nd_b_nar _) (by omega) (by omega) dX1_count_75 ((hk0 rfl h ⟨hs, o, nap, ds, gi, dss, hK⟩ (cw_f.rfl.fr hl123)))
    · refine nd_tableIn hC (tgt := 76) dX1_count_1 (by decide) (by decide) (by rfl) (by decide) ?_
      refine nd_aload_n hC dX1_count_76 rfl rfl ?_
      refine nd_callV (mm2 := mX1_guests) (As := []) (mc2 := 0) (ms2 := 0) (d2 := d - 1) hC rfl lkX1_280 ⟨rfl, lmX1_guests⟩ (hO) rfl (Nat.le_of_ble_eq_true rfl) (by omega) rfl (by exact Nat.le_of_ble_eq_true rfl) (by omega) (by omega) dX1_count_77 rfl ((cx_guests hg (by omega) (hK.P hs) ?_))
      refine nd_ireturn hC rfl (by first | rfl | exact nd_b_nar _) (by omega) (by omega) dX1_count_80 ((hk0 rfl h ⟨hs, o, nap, ds, gi, dss, hK⟩ (cw_f.rfl.fr hl123)))
    · refine nd_tableIn hC (tgt := 81) dX1_count_1 (by decide) (by decide) (by rfl) (by decide) ?_
      refine nd_aload_n hC dX1_count_81 rfl rfl ?_
      refine nd_callV (mm2 := mX1_now) (As := []) (mc2 := 0) (ms2 := 0) (d2 := d - 1) hC rfl lkX1_161 ⟨rfl, lmX1_now⟩ (hO) rfl (Nat.le_of_ble_eq_true rfl) (by omega) rfl (by exact Nat.le_of_ble_eq_true rfl) (by omega) (by omega) dX1_count_82 rfl ((cw_now hg (by omega) hS hs hK (fun h2 R hR f hs2 hK2 hl => ?_)))
      obtain ⟨⟨x2, hO2⟩, -, hkk2, -⟩ := id hK2
      unfold cx_O at hO2
      obtain ⟨sfr2, sbk2, sfo2, smn2, hS2, hcv2⟩ := id hkk2.2.1
      obtain ⟨hS21, hS22, hS23, hS24⟩ := id hS2
      have hcv2 : cs_v sfr2 sbk2 sfo2 smn2 (sy_c S) := hcv2
      obtain ⟨w, hi, co, hL, hw, hcl⟩ := id hl
      subst hw
      refine nd_getN (ci := nX4) hC in_X4 rfl hL.1 2 (by decide) q344 (fun _ z => z) rfl dX1_count_85 ?_
      refine nd_ireturn hC rfl (by first | rfl | exact nd_b_nar _) (by omega) (by omega) dX1_count_88 ((hk0 rfl h2 ⟨hs2, o, nap, ds, gi, dss, hK2⟩ (f.fr hl123)))
    · refine nd_tableIn hC (tgt := 89) dX1_count_1 (by decide) (by decide) (by rfl) (by decide) ?_
      refine nd_aload_n hC dX1_count_89 rfl rfl ?_
      refine nd_callV (mm2 := mX1_now) (As := []) (mc2 := 0) (ms2 := 0) (d2 := d - 1) hC rfl lkX1_161 ⟨rfl, lmX1_now⟩ (hO) rfl (Nat.le_of_ble_eq_true rfl) (by omega) rfl (by exact Nat.le_of_ble_eq_true rfl) (by omega) (by omega) dX1_count_90 rfl ((cw_now hg (by omega) hS hs hK (fun h2 R hR f hs2 hK2 hl => ?_)))
      obtain ⟨⟨x2, hO2⟩, -, hkk2, -⟩ := id hK2
      unfold cx_O at hO2
      obtain ⟨sfr2, sbk2, sfo2, smn2, hS2, hcv2⟩ := id hkk2.2.1
      obtain ⟨hS21, hS22, hS23, hS24⟩ := id hS2
      have hcv2 : cs_v sfr2 sbk2 sfo2 smn2 (sy_c S) := hcv2
      obtain ⟨w, hi, co, hL, hw, hcl⟩ := id hl
      subst hw
      refine nd_callV (mm2 := mX4_greatest) (As := []) (mc2 := 0) (ms2 := 0) (d2 := d - 1) hC rfl lkX1_227 ⟨rfl, lmX4_greatest⟩ (hL.1) rfl (Nat.le_of_ble_eq_true rfl) (by omega) rfl (by exact Nat.le_of_ble_eq_true rfl) (by omega) (by omega) dX1_count_93 rfl ((cl_greatest hg hl hok hn ?_))
      refine nd_ireturn hC rfl (by first | rfl | exact nd_b_nar _) (by omega) (by omega) dX1_count_96 ((hk0 rfl h2 ⟨hs2, o, nap, ds, gi, dss, hK2⟩ (f.fr hl123)))
    · refine nd_tableIn hC (tgt := 97) dX1_count_1 (by decide) (by decide) (by rfl) (by decide) ?_
      have cv1 : smn = nI (sy_c S).1.length := hcv.1
      subst cv1
      refine nd_aload_n hC dX1_count_97 rfl rfl ?_
      refine nd_get (ci := nX1) hC in_X1 rfl hO 0 (by decide) q384 (fun _ z => z) rfl dX1_count_98 ?_
      refine nd_getN (ci := nX2) hC in_X2 rfl hSt1 4 (by decide) q310 (fun _ z => z) rfl dX1_count_101 ?_
      refine nd_ireturn hC rfl (by first | rfl | exact nd_b_nar _) (by omega) (by omega) dX1_count_104 ((hk0 rfl h ⟨hs, o, nap, ds, gi, dss, hK⟩ (cw_f.rfl.fr hl123)))
    · refine nd_tableIn hC (tgt := 105) dX1_count_1 (by decide) (by decide) (by rfl) (by decide) ?_
      refine nd_aload_n hC dX1_count_105 rfl rfl ?_
      refine nd_aload_n hC dX1_count_106 rfl rfl ?_
      refine nd_callV (mm2 := mX1_now) (As := []) (mc2 := 0) (ms2 := 0) (d2 := d - 1) hC rfl lkX1_161 ⟨rfl, lmX1_now⟩ (hO) rfl (Nat.le_of_ble_eq_true rfl) (by omega) rfl (by exact Nat.le_of_ble_eq_true rfl) (by omega) (by omega) dX1_count_107 rfl ((cw_now hg (by omega) hS hs hK (fun h2 R hR f hs2 hK2 hl => ?_)))
      obtain ⟨⟨x2, hO2⟩, -, hkk2, -⟩ := id hK2
      unfold cx_O at hO2
      obtain ⟨sfr2, sbk2, sfo2, smn2, hS2, hcv2⟩ := id hkk2.2.1
      obtain ⟨hS21, hS22, hS23, hS24⟩ := id hS2
      have hcv2 : cs_v sfr2 sbk2 sfo2 smn2 (sy_c S) := hcv2
      obtain ⟨w, hi, co, hL, hw, hcl⟩ := id hl
      subst hw
      refine nd_callV (mm2 := mX1_top) (As := [_]) (mc2 := 0) (ms2 := 0) (d2 := d - 1) hC rfl lkX1_230 ⟨rfl, lmX1_top⟩ (hO2) rfl (Nat.le_of_ble_eq_true rfl) (by omega) rfl (by exact Nat.le_of_ble_eq_true rfl) (by omega) (by omega) dX1_count_110 rfl ((cx_top hg (by omega) (hK2.P hs2) hsv hl hok hn ?_))
      refine nd_ireturn hC rfl (by first | rfl | exact nd_b_nar _) (by omega) (by omega) dX1_count_113 ((hk0 rfl h2 ⟨hs2, o, nap, ds, gi, dss, hK2⟩ (f.fr hl123)))
    · refine nd_tableIn hC (tgt := 114) dX1_count_1 (by decide) (by decide) (by rfl) (by decide) ?_
      refine nd_aload_n hC dX1_count_114 rfl rfl ?_
      refine nd_aload_n hC dX1_count_115 rfl rfl ?_
      refine nd_callV (mm2 := mX1_now) (As := []) (mc2 := 0) (ms2 := 0) (d2 := d - 1) hC rfl lkX1_161 ⟨rfl, lmX1_now⟩ (hO) rfl (Nat.le_of_ble_eq_true rfl) (by omega) rfl (by exact Nat.le_of_ble_eq_true rfl) (by omega) (by omega) dX1_count_116 rfl ((cw_now hg (by omega) hS hs hK (fun h2 R hR f hs2 hK2 hl => ?_)))
      obtain ⟨⟨x2, hO2⟩, -, hkk2, -⟩ := id hK2
      unfold cx_O at hO2
      obtain ⟨sfr2, sbk2, sfo2, smn2, hS2, hcv2⟩ := id hkk2.2.1
      obtain ⟨hS21, hS22, hS23, hS24⟩ := id hS2
      have hcv2 : cs_v sfr2 sbk2 sfo2 smn2 (sy_c S) := hcv2
      obtain ⟨w, hi, co, hL, hw, hcl⟩ := id hl
      subst hw
      refine nd_callV (mm2 := mX1_under) (As := [_]) (mc2 := 0) (ms2 := 0) (d2 := d - 1) hC rfl lkX1_234 ⟨rfl, lmX1_under⟩ (hO2) rfl (Nat.le_of_ble_eq_true rfl) (by omega) rfl (by exact Nat.le_of_ble_eq_true rfl) (by omega) (by omega) dX1_count_119 rfl ((cx_under hg (by omega) (hK2.P hs2) hsv hl hok hn ?_))
      refine nd_ireturn hC rfl (by first | rfl | exact nd_b_nar _) (by omega) (by omega) dX1_count_122 ((hk0 rfl h2 ⟨hs2, o, nap, ds, gi, dss, hK2⟩ (f.fr hl123)))
    · refine nd_tableIn hC (tgt := 123) dX1_count_1 (by decide) (by decide) (by rfl) (by decide) ?_
      refine nd_aload_n hC dX1_count_123 rfl rfl ?_
      refine nd_get (ci := nX1) hC in_X1 rfl hO 0 (by decide) q384 (fun _ z => z) rfl dX1_count_124 ?_
      refine nd_callV (mm2 := mX2_all) (As := []) (mc2 := 0) (ms2 := 0) (d2 := d - 1) hC rfl lkX1_237 ⟨rfl, lmX2_all⟩ (hSt1) rfl (Nat.le_of_ble_eq_true rfl) (by omega) rfl (by exact Nat.le_of_ble_eq_true rfl) (by omega) (by omega) dX1_count_127 rfl ((cs_all hg (by omega) hkk.2.1 hkk.1.c hsv.2.1 hsv.2.2.1 hn ?_))
      refine nd_aload_n hC dX1_count_130 rfl rfl ?_
      refine nd_aload_n hC dX1_count_131 rfl rfl ?_
      refine nd_callV (mm2 := mX1_now) (As := []) (mc2 := 0) (ms2 := 0) (d2 := d - 1) hC rfl lkX1_161 ⟨rfl, lmX1_now⟩ (hO) rfl (Nat.le_of_ble_eq_true rfl) (by omega) rfl (by exact Nat.le_of_ble_eq_true rfl) (by omega) (by omega) dX1_count_132 rfl ((cw_now hg (by omega) hS hs hK (fun h2 R hR f hs2 hK2 hl => ?_)))
      obtain ⟨⟨x2, hO2⟩, -, hkk2, -⟩ := id hK2
      unfold cx_O at hO2
      obtain ⟨sfr2, sbk2, sfo2, smn2, hS2, hcv2⟩ := id hkk2.2.1
      obtain ⟨hS21, hS22, hS23, hS24⟩ := id hS2
      have hcv2 : cs_v sfr2 sbk2 sfo2 smn2 (sy_c S) := hcv2
      obtain ⟨w, hi, co, hL, hw, hcl⟩ := id hl
      subst hw
      refine nd_callV (mm2 := mX1_top) (As := [_]) (mc2 := 0) (ms2 := 0) (d2 := d - 1) hC rfl lkX1_230 ⟨rfl, lmX1_top⟩ (hO2) rfl (Nat.le_of_ble_eq_true rfl) (by omega) rfl (by exact Nat.le_of_ble_eq_true rfl) (by omega) (by omega) dX1_count_135 rfl ((cx_top hg (by omega) (hK2.P hs2) hsv hl hok hn ?_))
      refine nd_isub hC dX1_count_138 ?_
      refine nd_aload_n hC dX1_count_139 rfl rfl ?_
      refine nd_aload_n hC dX1_count_140 rfl rfl ?_
      refine nd_callV (mm2 := mX1_now) (As := []) (mc2 := 0) (ms2 := 0) (d2 := d - 1) hC rfl lkX1_161 ⟨rfl, lmX1_now⟩ (hO2) rfl (Nat.le_of_ble_eq_true rfl) (by omega) rfl (by exact Nat.le_of_ble_eq_true rfl) (by omega) (by omega) dX1_count_141 rfl ((cw_now hg (by omega) hS hs2 hK2 (fun h3 R3 hR3 f3 hs3 hK3 hl3 => ?_)))
      obtain ⟨⟨x3, hO3⟩, -⟩ := id hK3
      unfold cx_O at hO3
      refine nd_callV (mm2 := mX1_under) (As := [_]) (mc2 := 0) (ms2 := 0) (d2 := d - 1) hC rfl lkX1_234 ⟨rfl, lmX1_under⟩ (hO3) rfl (Nat.le_of_ble_eq_true rfl) (by omega) rfl (by exact Nat.le_of_ble_eq_true rfl) (by omega) (by omega) dX1_count_144 rfl ((cx_under hg (by omega) (hK3.P hs3) hsv hl3 hok hn ?_))
      refine nd_isub hC dX1_count_147 ?_
      refine nd_ireturn hC rfl (by first | rfl | exact nd_b_nar _) (by omega) (by omega) dX1_count_148 ((hk0 rfl h3 ⟨hs3, o, nap, ds, gi, dss, hK3⟩ ((f.trans f3).fr hl123)))
    · refine nd_tableIn hC (tgt := 149) dX1_count_1 (by decide) (by decide) (by rfl) (by decide) ?_
      refine nd_aload_n hC dX1_count_149 rfl rfl ?_
      refine nd_get (ci := nX1) hC in_X1 rfl hO 3 (by decide) q389 (fun _ z => z) rfl dX1_count_150 ?_
      refine nd_callV (mm2 := mJ2_size) (As := []) (mc2 := 0) (ms2 := 0) (d2 := d - 1) hC rfl lkX1_154 ⟨rfl, lmJ2_size⟩ (h90) rfl (Nat.le_of_ble_eq_true rfl) (by omega) rfl (by exact Nat.le_of_ble_eq_true rfl) (by omega) (by omega) dX1_count_153 rfl ((ca_size hg h90 ?_))
      refine nd_ireturn hC rfl (by first | rfl | exact nd_b_nar _) (by omega) (by omega) dX1_count_156 ((hk0 rfl h ⟨hs, o, nap, ds, gi, dss, hK⟩ (cw_f.rfl.fr hl123)))
    · refine nd_tableIn hC (tgt := 157) dX1_count_1 (by decide) (by decide) (by rfl) (by decide) ?_
      refine nd_aload_n hC dX1_count_157 rfl rfl ?_
      refine nd_get (ci := nX1) hC in_X1 rfl hO 6 (by decide) q392 (fun _ z => z) rfl dX1_count_158 ?_
      refine nd_ireturn hC rfl (by first | rfl | exact nd_b_nar _) (by omega) (by omega) dX1_count_161 ((hk0 rfl h ⟨hs, o, nap, ds, gi, dss, hK⟩ (cw_f.rfl.fr hl123)))
  · rw [if_neg hc] at hk0
    refine nd_tableOut hC (tgt := 162) dX1_count_1 ?_ (by decide) ?_
    · unfold op_in at hc
      rw [decide_eq_true_iff] at hc
      omega
    · refine nd_iconst hC (v := -1) (by rfl) dX1_count_162 ?_
      refine nd_ireturn hC rfl (by first | rfl | exact nd_b_nar _) (by omega) (by omega) dX1_count_163 ((hk0 rfl h ⟨hs, o, nap, ds, gi, dss, hK⟩ (cw_f.rfl.fr hl123)))
end CP32

