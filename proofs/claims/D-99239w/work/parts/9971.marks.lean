set_option maxRecDepth 100000
/-! ===== marks, amend ===== -/
section CP71
variable {g : nd_G} {d : Nat} {K : nd_K} {h : nd_H} {o : Nat → Nat} {nap : Nat} {ds : List Nat} {gi : Nat → Value} {dss : Nat → List Nat} {S : sy_S}
theorem mk_up {f : Nat → Int32} {l : List Nat} {c v : Nat} (H : ∀ i, i < l.length → f i = nI (l.getD i 0)) : ∀ i, i < (l.set c v).length → upd f c (nI v) i = nI ((l.set c v).getD i 0) := by
  intro i hi
  rw [List.length_set] at hi
  by_cases e : i = c
  · subst e
    rw [upd_s, List.getD_eq_getElem?_getD, List.getElem?_set_self hi]; rfl
  · rw [upd_n e, H i hi, List.getD_eq_getElem?_getD, List.getD_eq_getElem?_getD, List.getElem?_set_ne (Ne.symm e)]
theorem cs_marks0 (hg : nd_OK g) {a c v n : Nat} {s : sv} (hS : cs_st h a nap s) (hv : sv_ok n s) (hn : n ≤ 6) (hc : c < n) (hk : ∀ h2, cs_fr a h h2 → cs_st h2 a nap (s.1, s.2.1.set c v, s.2.2) → K (.inl (some (.int (nI (s.2.1.getD c 0))))) h2) : nd_M g mX1_marks d 0 0 [.ref a, .int (nI c), .int (nI 0), .int (nI v)] h K := by
  obtain ⟨fr, bk, fo, mn, ⟨s1, s2, s3, s4⟩, v1, v2, v3, v4⟩ := hS
  obtain ⟨w1, w2, w3, -⟩ := hv
  subst v1
  refine nd_enter hg (by decide) rfl (Nat.le_of_ble_eq_true rfl) (fun X hC => ?_)
  refine nd_iload_n hC dX1_marks_0 rfl ?_
  first | with_reducible refine nd_if_neB hC (tgt := 11) dX1_marks_1 (by decide) (fun hq => ?_) (fun hq => ?_) | with_reducible refine nd_if_neN hC (tgt := 11) (by omega) dX1_marks_1 (by decide) (fun hq => ?_) (fun hq => ?_) | refine nd_if_ne hC (tgt := 11) dX1_marks_1 (by decide) (fun hq => ?_) (fun hq => ?_)
  · exact absurd hq (by decide)
  · refine nd_aload_n hC dX1_marks_4 rfl rfl ?_
    refine nd_getN (ci := nX2) hC in_X2 rfl s1 1 (by decide) q303 (fun _ z => z) rfl dX1_marks_5 ?_
    refine nd_goto hC (tgt := 15) dX1_marks_8 (by decide) ?_
    refine nd_astore hC dX1_marks_15 (Nat.le_of_ble_eq_true rfl) rfl ?_
    refine nd_aload hC dX1_marks_17 rfl rfl ?_
    refine nd_iload_n hC dX1_marks_19 rfl ?_
    refine nd_ialoadN hC s2 (by omega) (by omega) dX1_marks_20 ?_
    refine nd_istore hC dX1_marks_21 (Nat.le_of_ble_eq_true rfl) ?_
    refine nd_aload hC dX1_marks_23 rfl rfl ?_
    refine nd_iload_n hC dX1_marks_25 rfl ?_
    refine nd_iload_n hC dX1_marks_26 rfl ?_
    refine nd_iastoreN hC s2 (j := c) (by omega) (by omega) dX1_marks_27 ?_
    generalize e1 : h.set (a + 5) (.inl (0, 6, .inl (upd fr c (nI v)))) = h1
    have g1 : ∀ b, b ≠ a + 5 → h1[b]? = h[b]? := fun b hb => by rw [← e1]; exact List.getElem?_set_ne (Ne.symm hb)
    have c1 : h1[a + 5]? = some (.inl (0, 6, .inl (upd fr c (nI v)))) := by rw [← e1]; exact List.getElem?_set_self (nd_get_lt s2)
    have f1 : cs_fr a h h1 := by rw [← e1]; exact cs_fr.set (by omega)
    have R := hk h1 f1 ⟨upd fr c (nI v), bk, fo, _, ⟨(g1 _ (by omega)).trans s1, c1, (g1 _ (by omega)).trans s3, (g1 _ (by omega)).trans s4⟩, rfl, v2, mk_up v3, v4⟩
    have ev : fr c = nI (s.2.1.getD c 0) := v3 c (by omega)
    rw [← ev] at R
    refine nd_iload hC dX1_marks_28 rfl ?_
    refine nd_ireturn hC rfl (by first | rfl | exact nd_b_nar _) (by omega) (by omega) dX1_marks_30 (R)
theorem cs_marks1 (hg : nd_OK g) {a c v n : Nat} {s : sv} (hS : cs_st h a nap s) (hv : sv_ok n s) (hn : n ≤ 6) (hc : c < n) (hk : ∀ h2, cs_fr a h h2 → cs_st h2 a nap (s.1, s.2.1, s.2.2.set c v) → K (.inl (some (.int (nI (s.2.2.getD c 0))))) h2) : nd_M g mX1_marks d 0 0 [.ref a, .int (nI c), .int (nI 1), .int (nI v)] h K := by
  obtain ⟨fr, bk, fo, mn, ⟨s1, s2, s3, s4⟩, v1, v2, v3, v4⟩ := hS
  obtain ⟨w1, w2, w3, -⟩ := hv
  subst v1
  refine nd_enter hg (by decide) rfl (Nat.le_of_ble_eq_true rfl) (fun X hC => ?_)
  refine nd_iload_n hC dX1_marks_0 rfl ?_
  first | with_reducible refine nd_if_neB hC (tgt := 11) dX1_marks_1 (by decide) (fun hq => ?_) (fun hq => ?_) | with_reducible refine nd_if_neN hC (tgt := 11) (by omega) dX1_marks_1 (by decide) (fun hq => ?_) (fun hq => ?_) | refine nd_if_ne hC (tgt := 11) dX1_marks_1 (by decide) (fun hq => ?_) (fun hq => ?_)
  · refine nd_aload_n hC dX1_marks_11 rfl rfl ?_
    refine nd_getN (ci := nX2) hC in_X2 rfl s1 2 (by decide) q305 (fun _ z => z) rfl dX1_marks_12 ?_
    refine nd_astore hC dX1_marks_15 (Nat.le_of_ble_eq_true rfl) rfl ?_
    refine nd_aload hC dX1_marks_17 rfl rfl ?_
    refine nd_iload_n hC dX1_marks_19 rfl ?_
    refine nd_ialoadN hC s3 (by omega) (by omega) dX1_marks_20 ?_
    refine nd_istore hC dX1_marks_21 (Nat.le_of_ble_eq_true rfl) ?_
    refine nd_aload hC dX1_marks_23 rfl rfl ?_
    refine nd_iload_n hC dX1_marks_25 rfl ?_
    refine nd_iload_n hC dX1_marks_26 rfl ?_
    refine nd_iastoreN hC s3 (j := c) (by omega) (by omega) dX1_marks_27 ?_
    generalize e1 : h.set (a + 6) (.inl (0, 6, .inl (upd bk c (nI v)))) = h1
    have g1 : ∀ b, b ≠ a + 6 → h1[b]? = h[b]? := fun b hb => by rw [← e1]; exact List.getElem?_set_ne (Ne.symm hb)
    have c1 : h1[a + 6]? = some (.inl (0, 6, .inl (upd bk c (nI v)))) := by rw [← e1]; exact List.getElem?_set_self (nd_get_lt s3)
    have f1 : cs_fr a h h1 := by rw [← e1]; exact cs_fr.set (by omega)
    have R := hk h1 f1 ⟨fr, upd bk c (nI v), fo, _, ⟨(g1 _ (by omega)).trans s1, (g1 _ (by omega)).trans s2, c1, (g1 _ (by omega)).trans s4⟩, rfl, v2, v3, mk_up v4⟩
    have ev : bk c = nI (s.2.2.getD c 0) := v4 c (by omega)
    rw [← ev] at R
    refine nd_iload hC dX1_marks_28 rfl ?_
    refine nd_ireturn hC rfl (by first | rfl | exact nd_b_nar _) (by omega) (by omega) dX1_marks_30 (R)
  · exact absurd hq (by decide)

theorem cp_amend (hg : nd_OK g) (hd : 8 ≤ d) (x y z : Int32) : cp_ok g mX1_amend d 12 70 [.int x, .int y, .int z] (ex2 eNSE eIAE) (mp_i (op_amend x y z)) := by
  intro S h K hS hI hl123 hk0 hk1
  obtain ⟨hs, o, nap, ds, gi, dss, hK⟩ := hI
  obtain ⟨⟨x0, hO⟩, h17, hkk, -⟩ := id hK
  unfold cx_O at hO
  have hok := sy_l_ok hS
  have hwd := lk_width hok
  have hn : sy_n S ≤ 6 := hS.1.1.1
  have h5 := sy_len5 hS
  obtain ⟨sfr, sbk, sfo, smn, hSt, hcv⟩ := id hkk.2.1
  obtain ⟨hSt1, hSt2, hSt3, hSt4⟩ := id hSt
  have hcv : cs_v sfr sbk sfo smn (sy_c S) := hcv
  have hsv : sv_ok (sy_n S) (sy_c S) := hS.1.2.1
  unfold mp_i op_amend at hk0 hk1
  obtain ⟨fa, b1, b2, b3, b4, b5, b6, m, ed, n1, n2, n3, n4⟩ := hkk.1.c
  refine nd_enter hg (by decide) rfl (Nat.le_of_ble_eq_true rfl) (fun X hC => ?_)
  refine nd_aload_n hC dX1_amend_0 rfl rfl ?_
  refine nd_get (ci := nX1) hC in_X1 rfl hO 0 (by decide) q384 (fun _ z => z) rfl dX1_amend_1 ?_
  refine nd_getN (ci := nX2) hC in_X2 rfl hSt1 0 (by decide) q301 (fun _ z => z) rfl dX1_amend_4 ?_
  refine nd_iload_n hC dX1_amend_7 rfl ?_
  first | with_reducible refine nd_i2lN hC (by omega) dX1_amend_8 ?_ | refine nd_i2l hC dX1_amend_8 ?_
  refine nd_callV (mm2 := mX3_isCell) (As := [_]) (mc2 := 0) (ms2 := 0) (d2 := d - 1) hC rfl lkX1_171 ⟨rfl, lmX3_isCell⟩ (n3) rfl (Nat.le_of_ble_eq_true rfl) (by omega) rfl (by exact Nat.le_of_ble_eq_true rfl) (by omega) (by omega) dX1_amend_9 rfl ((cn_isCell (n := sy_n S) hg (by omega) hkk.1.c hn ?_))
  have e : decide (0 ≤ x.toInt64.toInt ∧ x.toInt64.toInt ≤ (sy_n S : Int) - 1) = op_in x 0 ((sy_n S : Int) - 1) := by unfold op_in; rw [nd_tl]
  rw [e]
  refine nd_callS (mm2 := mX1_there) (As := [_]) (mc2 := 1) (ms2 := 6) (d2 := d - 1) hC rfl lkX1_168 lmX1_there (Nat.le_of_ble_eq_true rfl) (by omega) rfl (by exact Nat.le_of_ble_eq_true rfl) (by omega) (by omega) dX1_amend_12 rfl ((ci_there hg (fun hc => ?_) (fun hc n => ?_)))
  · rw [if_pos hc] at hk0 hk1
    obtain ⟨c, hc6, rfl⟩ := op_in_nat hc
    have J : ∀ b : Bool, (op_in y 0 1 && op_in z 0 99) = b → nd_W g mX1_amend d 12 70 K X 41 [some (.ref 0), some (.int (nI c)), some (.int y), some (.int z)] [.int (nd_b b)] h (0 + 1) (0 + 6) := by
      intro b hb
      refine nd_callS (mm2 := mX1_needs) (As := [_]) (mc2 := 1) (ms2 := 6) (d2 := d - 1) hC rfl lkX1_110 lmX1_needs (Nat.le_of_ble_eq_true rfl) (by omega) rfl (by exact Nat.le_of_ble_eq_true rfl) (by omega) (by omega) dX1_amend_41 rfl ((ci_needs hg (fun hb1 => ?_) (fun hb1 n => ?_)))
      rotate_left
      · rw [if_neg (by rw [hb, hb1]; decide)] at hk1
        exact nd_out hC rfl (by omega) (by omega) (hk1 (Nat.succ_ne_zero _) _ _ ⟨hs.app, o, nap, ds, gi, dss, hK.f cw_f.rfl.app⟩ (cw_f.rfl.app.fr hl123))
      rw [hb1] at hb
      rw [if_pos hb] at hk0
      rw [Bool.and_eq_true] at hb
      obtain ⟨w, hw1, rfl⟩ := op_in_nat hb.1
      obtain ⟨v, hv9, rfl⟩ := op_in_nat hb.2
      rw [nI_toInt (by omega), nI_toInt (by omega), nI_toInt (by omega), nI_cl (by omega)] at hk0
      refine nd_aload_n hC dX1_amend_44 rfl rfl ?_
      refine nd_callV (mm2 := mX1_notes) (As := []) (mc2 := 9) (ms2 := 48) (d2 := d - 1) hC rfl lkX1_297 ⟨rfl, lmX1_notes⟩ (hO) rfl (Nat.le_of_ble_eq_true rfl) (by omega) rfl (by exact Nat.le_of_ble_eq_true rfl) (by omega) (by omega) dX1_amend_45 rfl ((cx_notes hg (by omega) ⟨hs, o, nap, ds, gi, dss, hK⟩ hS hl123 ?_))
      intro h3 hI3 fr3
      obtain ⟨hs3, o3, nap3, ds3, gi3, dss3, hK3⟩ := hI3
      obtain ⟨⟨x3, hO3⟩, -, hkk3, -⟩ := id hK3
      unfold cx_O at hO3
      refine nd_aload_n hC dX1_amend_48 rfl rfl ?_
      refine nd_get (ci := nX1) hC in_X1 rfl hO3 0 (by decide) q384 (fun _ z => z) rfl dX1_amend_49 ?_
      refine nd_iload_n hC dX1_amend_52 rfl ?_
      refine nd_iload_n hC dX1_amend_53 rfl ?_
      refine nd_iload_n hC dX1_amend_54 rfl ?_
      have hw : w = 0 ∨ w = 1 := by omega
      rcases hw with rfl | rfl
      · have e3 : dd_do (sy_c S) (1000 * (((0 : Nat) : Int) + 1) + 100 * (c : Int) + v) = ((sy_c S).1, (sy_c S).2.1.set c v, (sy_c S).2.2) := by
          unfold dd_do
          rw [if_neg (by omega), if_neg (by omega), if_neg (by omega), if_neg (by omega), if_pos (by omega), show (1000 * (((0 : Nat) : Int) + 1) + 100 * (c : Int) + v).toNat % 1000 / 100 = c by omega, show (1000 * (((0 : Nat) : Int) + 1) + 100 * (c : Int) + v).toNat % 100 = v by omega]
        rw [if_pos (by decide)] at hk0
        refine nd_callS (mm2 := mX1_marks) (As := [_, _, _, _]) (mc2 := 0) (ms2 := 0) (d2 := d - 1) hC rfl lkX1_308 lmX1_marks (Nat.le_of_ble_eq_true rfl) (by omega) rfl (by exact Nat.le_of_ble_eq_true rfl) (by omega) (by omega) dX1_amend_55 rfl ((cs_marks0 (n := sy_n S) hg hkk3.2.1 hsv hn (by omega) ?_))
        intro h4 f4 s4
        have hK4 : cw_K o3 nap3 ds3 gi3 dss3 (sy_dd S (1000 * (((0 : Nat) : Int) + 1) + 100 * (c : Int) + v)) h4 := by
          show cw_K o3 nap3 ds3 gi3 dss3 (sy_st (sy_set S (sy_kp S)) (dd_do (sy_c S) (1000 * (((0 : Nat) : Int) + 1) + 100 * (c : Int) + v))) h4
          rw [e3]
          exact hK3.st f4 s4
        refine nd_ireturn hC rfl (by first | rfl | exact nd_b_nar _) (by omega) (by omega) dX1_amend_58 ((hk0 rfl _ ⟨f4.sc hs3, o3, nap3, ds3, gi3, dss3, hK4⟩ (fr3.trans f4.fr)))
      · have e3 : dd_do (sy_c S) (1000 * (((1 : Nat) : Int) + 1) + 100 * (c : Int) + v) = ((sy_c S).1, (sy_c S).2.1, (sy_c S).2.2.set c v) := by
          unfold dd_do
          rw [if_neg (by omega), if_neg (by omega), if_neg (by omega), if_neg (by omega), if_neg (by omega), show (1000 * (((1 : Nat) : Int) + 1) + 100 * (c : Int) + v).toNat % 1000 / 100 = c by omega, show (1000 * (((1 : Nat) : Int) + 1) + 100 * (c : Int) + v).toNat % 100 = v by omega]
        rw [if_neg (by decide)] at hk0
        refine nd_callS (mm2 := mX1_marks) (As := [_, _, _, _]) (mc2 := 0) (ms2 := 0) (d2 := d - 1) hC rfl lkX1_308 lmX1_marks (Nat.le_of_ble_eq_true rfl) (by omega) rfl (by exact Nat.le_of_ble_eq_true rfl) (by omega) (by omega) dX1_amend_55 rfl ((cs_marks1 (n := sy_n S) hg hkk3.2.1 hsv hn (by omega) ?_))
        intro h4 f4 s4
        have hK4 : cw_K o3 nap3 ds3 gi3 dss3 (sy_dd S (1000 * (((1 : Nat) : Int) + 1) + 100 * (c : Int) + v)) h4 := by
          show cw_K o3 nap3 ds3 gi3 dss3 (sy_st (sy_set S (sy_kp S)) (dd_do (sy_c S) (1000 * (((1 : Nat) : Int) + 1) + 100 * (c : Int) + v))) h4
          rw [e3]
          exact hK3.st f4 s4
        refine nd_ireturn hC rfl (by first | rfl | exact nd_b_nar _) (by omega) (by omega) dX1_amend_58 ((hk0 rfl _ ⟨f4.sc hs3, o3, nap3, ds3, gi3, dss3, hK4⟩ (fr3.trans f4.fr)))
    have J24 : op_in y 0 1 = true → nd_W g mX1_amend d 12 70 K X 24 [some (.ref 0), some (.int (nI c)), some (.int y), some (.int z)] [] h (0 + 1) (0 + 6) := by
      intro hy
      rw [hy, Bool.true_and] at J
      refine nd_iload_n hC dX1_amend_24 rfl ?_
      first | with_reducible refine nd_i2lN hC (by omega) dX1_amend_25 ?_ | refine nd_i2l hC dX1_amend_25 ?_
      refine nd_lconst hC (v := lN 0) (by rfl) dX1_amend_26 ?_
      refine nd_ldc2 hC q2057 dX1_amend_27 ?_
      refine nd_v_eq (y := .long (lN 99)) (by rfl) ?_
      refine nd_callS (mm2 := mX1_isIn) (As := [_, _, _]) (mc2 := 0) (ms2 := 0) (d2 := d - 1) hC rfl lkX1_106 lmX1_isIn (Nat.le_of_ble_eq_true rfl) (by omega) rfl (by exact Nat.le_of_ble_eq_true rfl) (by omega) (by omega) dX1_amend_30 rfl ((ci_isIn hg ?_))
      have e : (decide (lN 0 ≤ z.toInt64) && decide (z.toInt64 ≤ lN 99)) = op_in z 0 99 := by
        unfold op_in
        rw [Bool.eq_iff_iff, Bool.and_eq_true, nd_lle, nd_lle, nd_tl, lN_toInt (by decide), lN_toInt (by decide), decide_eq_true_iff]
        omega
      rw [e]
      generalize op_in z 0 99 = b at J
      first | with_reducible refine nd_if_eqB hC (tgt := 40) dX1_amend_33 (by decide) (fun hq => ?_) (fun hq => ?_) | with_reducible refine nd_if_eqN hC (tgt := 40) (by omega) dX1_amend_33 (by decide) (fun hq => ?_) (fun hq => ?_) | refine nd_if_eq hC (tgt := 40) dX1_amend_33 (by decide) (fun hq => ?_) (fun hq => ?_)
      · cases b with
        | true => exact absurd hq (by decide)
        | false =>
          refine nd_iconst hC (v := nI 0) (by rfl) dX1_amend_40 ?_
          exact J false rfl
      · cases b with
        | false => exact absurd hq (by decide)
        | true =>
          refine nd_iconst hC (v := nI 1) (by rfl) dX1_amend_36 ?_
          refine nd_goto hC (tgt := 41) dX1_amend_37 (by decide) ?_
          exact J true rfl
    refine nd_iload_n hC dX1_amend_15 rfl ?_
    first | with_reducible refine nd_if_eqB hC (tgt := 24) dX1_amend_16 (by decide) (fun hq => ?_) (fun hq => ?_) | with_reducible refine nd_if_eqN hC (tgt := 24) (by omega) dX1_amend_16 (by decide) (fun hq => ?_) (fun hq => ?_) | refine nd_if_eq hC (tgt := 24) dX1_amend_16 (by decide) (fun hq => ?_) (fun hq => ?_)
    · exact J24 (by rw [hq]; decide)
    refine nd_iload_n hC dX1_amend_19 rfl ?_
    refine nd_iconst hC (v := nI 1) (by rfl) dX1_amend_20 ?_
    first | with_reducible refine nd_icmp_neN hC (tgt := 40) (by omega) (by omega) dX1_amend_21 (by decide) (fun hq2 => ?_) (fun hq2 => ?_) | refine nd_icmp_ne hC (tgt := 40) dX1_amend_21 (by decide) (fun hq2 => ?_) (fun hq2 => ?_)
    · have hy : op_in y 0 1 = false := by
        rw [Bool.eq_false_iff]
        intro q
        obtain ⟨w, hw1, rfl⟩ := op_in_nat q
        have hw : w = 0 ∨ w = 1 := by omega
        rcases hw with rfl | rfl
        · exact hq (by decide)
        · exact hq2 (by decide)
      rw [hy, Bool.false_and] at J
      refine nd_iconst hC (v := nI 0) (by rfl) dX1_amend_40 ?_
      exact J false rfl
    · exact J24 (by rw [hq2]; decide)
  · rw [if_neg (by rw [hc]; decide)] at hk1
    exact nd_out hC rfl (by omega) (by omega) (hk1 (Nat.succ_ne_zero _) _ _ ⟨hs.app, o, nap, ds, gi, dss, hK.f cw_f.rfl.app⟩ (cw_f.rfl.app.fr hl123))
end CP71

