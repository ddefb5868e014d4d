set_option maxRecDepth 100000
section CP78
variable {g : nd_G} {d : Nat} {K : nd_K} {h : nd_H} {o : Nat → Nat} {nap : Nat} {ds : List Nat} {gi : Nat → Value} {dss : Nat → List Nat} {S : sy_S}
theorem cp_undo (hg : nd_OK g) (hd : 8 ≤ d) (x : Int32) : cp_ok g mX1_undo d 2 12 [.int x] (ex1 eIAE) (mp_i (op_undo x)) := by
  intro S h K hS hI hl123 hk0 hk1
  obtain ⟨hs, o, nap, ds, gi, dss, hK⟩ := hI
  obtain ⟨⟨x0, hO⟩, h17, hkk, -⟩ := id hK
  unfold cx_O at hO
  have hok := sy_l_ok hS
  have hwd := lk_width hok
  have hn : sy_n S ≤ 6 := hS.1.1.1
  have h5 := sy_len5 hS
  obtain ⟨sfr, sbk, sfo, smn, hSt, hcv⟩ := id hkk.2.1
  obtain ⟨hSt1, hSt2, hSt3, hSt4⟩ := id hSt
  have hcv : cs_v sfr sbk sfo smn (sy_c S) := hcv
  have hsv : sv_ok (sy_n S) (sy_c S) := hS.1.2.1
  unfold mp_i op_undo at hk0 hk1
  have h10 : (sy_d S).length ≤ 10 := hS.1.2.2.1
  obtain ⟨c1, c2, c3, c4, c5⟩ := id hkk
  have c4 : ds.length = (sy_d S).length := c4
  obtain ⟨m0, ed0, e90⟩ : ∃ m0 ed0, h[90]? = some (.inr (nJ2, [.int m0, ed0, .int (nI ds.length)])) := by
    rcases c3 with ⟨e1, m, e2⟩ | ⟨m, ed, gf, e1, e2, e3, -⟩
    · rw [e1]; exact ⟨m, _, e2⟩
    · exact ⟨m, _, e3⟩
  refine nd_enter hg (by decide) rfl (Nat.le_of_ble_eq_true rfl) (fun X hC => ?_)
  have JE : ¬ (op_in x 1 10 = true ∧ x.toInt ≤ (sy_d S).length) → nd_W g mX1_undo d 2 12 K X 27 [some (.ref 0), some (.int x), none] [] h 0 0 := by
    intro q
    rw [if_neg q] at hk1
    refine nd_iconst hC (v := nI 0) (by rfl) dX1_undo_27 ?_
    refine nd_v_eq (y := .int (nd_b false)) (by rfl) ?_
    refine nd_callS (mm2 := mX1_needs) (As := [_]) (mc2 := 1) (ms2 := 6) (d2 := d - 1) hC rfl lkX1_110 lmX1_needs (Nat.le_of_ble_eq_true rfl) (by omega) rfl (by exact Nat.le_of_ble_eq_true rfl) (by omega) (by omega) dX1_undo_28 rfl ((ci_needs hg (fun hc => nomatch hc) (fun hc n => ?_)))
    exact nd_out hC rfl (by omega) (by omega) (hk1 (Nat.succ_ne_zero _) _ _ ⟨hs.app, o, nap, ds, gi, dss, hK.f cw_f.rfl.app⟩ (cw_f.rfl.app.fr hl123))
  refine nd_iload_n hC dX1_undo_0 rfl ?_
  first | with_reducible refine nd_i2lN hC (by omega) dX1_undo_1 ?_ | refine nd_i2l hC dX1_undo_1 ?_
  refine nd_lconst hC (v := lN 1) (by rfl) dX1_undo_2 ?_
  refine nd_ldc2 hC q2068 dX1_undo_3 ?_
  refine nd_v_eq (y := .long (lN 10)) (by rfl) ?_
  refine nd_callS (mm2 := mX1_isIn) (As := [_, _, _]) (mc2 := 0) (ms2 := 0) (d2 := d - 1) hC rfl lkX1_106 lmX1_isIn (Nat.le_of_ble_eq_true rfl) (by omega) rfl (by exact Nat.le_of_ble_eq_true rfl) (by omega) (by omega) dX1_undo_6 rfl ((ci_isIn hg ?_))
  have e : (decide (lN 1 ≤ x.toInt64) && decide (x.toInt64 ≤ lN 10)) = op_in x 1 10 := by
    unfold op_in
    rw [Bool.eq_iff_iff, Bool.and_eq_true, nd_lle, nd_lle, nd_tl, lN_toInt (by decide), lN_toInt (by decide), decide_eq_true_iff]
    omega
  rw [e]
  first | with_reducible refine nd_if_eqB hC (tgt := 27) dX1_undo_9 (by decide) (fun hc => ?_) (fun hc => ?_) | with_reducible refine nd_if_eqN hC (tgt := 27) (by omega) dX1_undo_9 (by decide) (fun hc => ?_) (fun hc => ?_) | refine nd_if_eq hC (tgt := 27) dX1_undo_9 (by decide) (fun hc => ?_) (fun hc => ?_)
  · exact JE (fun q => absurd (hc.symm.trans q.1) (by decide))
  obtain ⟨a, ha, rfl⟩ : ∃ a : Nat, (1 ≤ a ∧ a ≤ 10) ∧ x = nI a := by
    unfold op_in at hc
    rw [decide_eq_true_iff] at hc
    exact ⟨x.toInt.toNat, by omega, by rw [← Int32.toInt_inj, nI_toInt (by omega)]; omega⟩
  rw [nI_toInt (by omega)] at JE hk0
  refine nd_iload_n hC dX1_undo_12 rfl ?_
  refine nd_aload_n hC dX1_undo_13 rfl rfl ?_
  refine nd_get (ci := nX1) hC in_X1 rfl hO 3 (by decide) q389 (fun _ z => z) rfl dX1_undo_14 ?_
  refine nd_callV (mm2 := mJ2_size) (As := []) (mc2 := 0) (ms2 := 0) (d2 := d - 1) hC rfl lkX1_154 ⟨rfl, lmJ2_size⟩ (e90) rfl (Nat.le_of_ble_eq_true rfl) (by omega) rfl (by exact Nat.le_of_ble_eq_true rfl) (by omega) (by omega) dX1_undo_17 rfl ((ca_size hg e90 ?_))
  first | with_reducible refine nd_icmp_gtN hC (tgt := 27) (by omega) (by omega) dX1_undo_20 (by decide) (fun hq => ?_) (fun hq => ?_) | refine nd_icmp_gt hC (tgt := 27) dX1_undo_20 (by decide) (fun hq => ?_) (fun hq => ?_)
  · exact JE (by omega)
  rw [if_pos ⟨hc, by omega⟩, nI_cl (by omega)] at hk0
  refine nd_iconst hC (v := nI 1) (by rfl) dX1_undo_23 ?_
  refine nd_goto hC (tgt := 28) dX1_undo_24 (by decide) ?_
  refine nd_v_eq (y := .int (nd_b true)) (by rfl) ?_
  refine nd_callS (mm2 := mX1_needs) (As := [_]) (mc2 := 1) (ms2 := 6) (d2 := d - 1) hC rfl lkX1_110 lmX1_needs (Nat.le_of_ble_eq_true rfl) (by omega) rfl (by exact Nat.le_of_ble_eq_true rfl) (by omega) (by omega) dX1_undo_28 rfl ((ci_needs hg (fun hb => ?_) (fun hb n => nomatch hb)))
  rcases c3 with ⟨z, -⟩ | ⟨m, ed, gf, e1, e2, e3, e4, e5, e6⟩
  · exfalso
    have z9 : ds.length = 0 := by rw [z]; rfl
    omega
  have hkl : ds.length - a < ds.length := by omega
  obtain ⟨b1, b2, hB⟩ := c5 (ds.length - a) hkl
  obtain ⟨br, bb, bo, bm, hB1, -⟩ := id hB
  have hvB : sv_ok (sy_n S) ((sy_d S).getD (ds.length - a) ([], [], [])) := by
    apply hS.1.2.2.2
    rw [List.getD_eq_getElem?_getD, List.getElem?_eq_getElem (by show ds.length - a < (sy_d S).length; omega)]
    exact List.getElem_mem _
  rw [← c4] at hk0
  refine nd_aload_n hC dX1_undo_31 rfl rfl ?_
  refine nd_get (ci := nX1) hC in_X1 rfl hO 3 (by decide) q389 (fun _ z => z) rfl dX1_undo_32 ?_
  refine nd_callV (mm2 := mJ2_size) (As := []) (mc2 := 0) (ms2 := 0) (d2 := d - 1) hC rfl lkX1_154 ⟨rfl, lmJ2_size⟩ (e90) rfl (Nat.le_of_ble_eq_true rfl) (by omega) rfl (by exact Nat.le_of_ble_eq_true rfl) (by omega) (by omega) dX1_undo_35 rfl ((ca_size hg e90 ?_))
  refine nd_iload_n hC dX1_undo_38 rfl ?_
  refine nd_isub hC dX1_undo_39 ?_
  refine nd_v_eq (y := .int (nI (ds.length - a))) (by
    congr 1
    apply Int32.toInt_inj.1
    rw [nd_ti (by omega) (by omega), nI_toInt (by omega)]
    omega) ?_
  refine nd_istore_n hC dX1_undo_40 (Nat.le_of_ble_eq_true rfl) ?_
  refine nd_aload_n hC dX1_undo_41 rfl rfl ?_
  refine nd_get (ci := nX1) hC in_X1 rfl hO 0 (by decide) q384 (fun _ z => z) rfl dX1_undo_42 ?_
  refine nd_aload_n hC dX1_undo_45 rfl rfl ?_
  refine nd_get (ci := nX1) hC in_X1 rfl hO 3 (by decide) q389 (fun _ z => z) rfl dX1_undo_46 ?_
  refine nd_iload_n hC dX1_undo_49 rfl ?_
  refine nd_callV (mm2 := mJ2_get) (As := [_]) (mc2 := 0) (ms2 := 0) (d2 := d - 1) hC rfl lkX1_265 ⟨rfl, lmJ2_get⟩ (e3) rfl (Nat.le_of_ble_eq_true rfl) (by omega) rfl (by exact Nat.le_of_ble_eq_true rfl) (by omega) (by omega) dX1_undo_50 rfl ((ca_get hg (by omega) ⟨m, e3, e4⟩ hkl (by omega) (e5 _ (by omega)) ?_))
  rw [e6 _ hkl]
  refine nd_castS hC q227 hB1.1 rfl dX1_undo_53 ?_
  refine nd_callV (mm2 := mX2_become) (As := [_]) (mc2 := 0) (ms2 := 0) (d2 := d - 1) hC rfl lkX1_91 ⟨rfl, lmX2_become⟩ (hSt1) rfl (Nat.le_of_ble_eq_true rfl) (by omega) rfl (by exact Nat.le_of_ble_eq_true rfl) (by omega) (by omega) dX1_undo_56 rfl ((cs_become hg hB hSt (by omega) hvB hn ?_))
  intro h2 f2 s2
  exact cx_undoL hg hC (by omega) (by omega) (by omega) a (sy_set S (sy_N S, (sy_d S).getD (ds.length - a) ([], [], []), sy_d S)) h2 h10 ⟨f2.sc hs, o, nap, ds, gi, dss, hK.st f2 s2⟩ (by show (sy_d S).length = _; omega) f2.fr (by rw [f2.1]; exact hl123) (fun h3 A B => hk0 rfl h3 A B)
end CP78

