set_option maxRecDepth 100000
/-! ===== perform ===== -/
section CP74
variable {g : nd_G} {d mc ms : Nat} {K : nd_K} {X : nd_X} {h : nd_H} {o : Nat → Nat} {nap : Nat} {ds : List Nat} {gi : Nat → Value} {dss : Nat → List Nat} {S : sy_S}
theorem cx_pf (hg : nd_OK g) (hC : nd_Cx g mX1_perform X) (hd : 8 ≤ d) {x : Int32} {t : Nat} {q : Nat × List Int64} (hc : op_in x 0 3 = true) (ht : t < 4) (hx : x = nI t) (hq30 : q.2.length ≤ 30) : ∀ (vs : List Int64) (k : Nat) (S : sy_S) (h1 : nd_H) (cs ss : Nat), sy_ok S → cw_I S h1 → 123 ≤ h1.length → cw_fr h h1 → sy_t S t = some q → q.2.drop k = vs → cs + 9 * vs.length ≤ mc → ss + 48 * vs.length ≤ ms → (∀ h2, cw_I (sy_set S (pf_go (sy_p S) vs k).2) h2 → cw_fr h h2 → K (.inl (some (.int (nI (pf_go (sy_p S) vs k).1)))) h2) → k ≤ q.2.length → nd_W g mX1_perform d mc ms K X 12 [some (.ref 0), some (.int x), some (.ref (96 + t)), some (.int (nI k))] [] h1 cs ss := by
  intro vs
  induction vs with
  | nil =>
    intro k S h1 cs ss hS hI hl hf hst hdr hcs hss hk hkq
    have hkl : k = q.2.length := by
      have := congrArg List.length hdr
      rw [List.length_drop] at this
      have : q.2.length - k = 0 := this
      omega
    obtain ⟨hs, o, nap, ds, gi, dss, hK⟩ := id hI
    rcases ty_cases hK hc ht hx with ⟨z, -⟩ | ⟨q2, b, z1, z2, z3, z4, z5, hT⟩
    · exfalso
      subst hx
      unfold ty_f at z
      rw [if_pos hc, nI_cl (by omega), hst] at z
      exact absurd z (show ¬ ((0 : Nat) = 2) by decide)
    rw [hst] at z4
    cases z4
    have R := hk h1 hI hf
    refine nd_iload_n hC dX1_perform_12 rfl ?_
    refine nd_aload_n hC dX1_perform_13 rfl rfl ?_
    refine nd_callV (mm2 := mX6_size) (As := []) (mc2 := 0) (ms2 := 0) (d2 := d - 1) hC rfl lkX1_340 ⟨rfl, lmX6_size⟩ (z5) rfl (Nat.le_of_ble_eq_true rfl) (by omega) rfl (by exact Nat.le_of_ble_eq_true rfl) (by omega) (by omega) dX1_perform_14 rfl ((ty_size hg hT hq30 ?_))
    first | with_reducible refine nd_icmp_geN hC (tgt := 76) (by omega) (by omega) dX1_perform_17 (by decide) (fun hq => ?_) (fun hq => ?_) | refine nd_icmp_ge hC (tgt := 76) dX1_perform_17 (by decide) (fun hq => ?_) (fun hq => ?_)
    · refine nd_aload_n hC dX1_perform_76 rfl rfl ?_
      refine nd_callV (mm2 := mX6_size) (As := []) (mc2 := 0) (ms2 := 0) (d2 := d - 1) hC rfl lkX1_340 ⟨rfl, lmX6_size⟩ (z5) rfl (Nat.le_of_ble_eq_true rfl) (by omega) rfl (by exact Nat.le_of_ble_eq_true rfl) (by omega) (by omega) dX1_perform_77 rfl ((ty_size hg hT hq30 ?_))
      rw [← hkl]
      refine nd_ireturn hC rfl (by first | rfl | exact nd_b_nar _) (by omega) (by omega) dX1_perform_80 (R)
    · omega
  | cons v vs ih =>
    intro k S h1 cs ss hS hI hl hf hst hdr hcs hss hk hkq
    have hkl : k + (vs.length + 1) = q.2.length := by
      have := congrArg List.length hdr
      rw [List.length_drop] at this
      have : q.2.length - k = vs.length + 1 := this
      omega
    have hv : q.2.getD k 0 = v := by
      rw [List.getD_eq_getElem?_getD, ← List.head?_drop, hdr]; rfl
    have hdr2 : q.2.drop (k + 1) = vs := by
      rw [← List.drop_drop, hdr]; rfl
    have hcs : cs + 9 * (vs.length + 1) ≤ mc := hcs
    have hss : ss + 48 * (vs.length + 1) ≤ ms := hss
    obtain ⟨hs, o, nap, ds, gi, dss, hK⟩ := id hI
    obtain ⟨⟨x0, hO⟩, h17, hkk, -⟩ := id hK
    unfold cx_O at hO
    obtain ⟨sfr, sbk, sfo, smn, hSt, hcv⟩ := id hkk.2.1
    rcases ty_cases hK hc ht hx with ⟨z, -⟩ | ⟨q2, b, z1, z2, z3, z4, z5, hT⟩
    · exfalso
      subst hx
      unfold ty_f at z
      rw [if_pos hc, nI_cl (by omega), hst] at z
      exact absurd z (show ¬ ((0 : Nat) = 2) by decide)
    rw [hst] at z4
    cases z4
    refine nd_iload_n hC dX1_perform_12 rfl ?_
    refine nd_aload_n hC dX1_perform_13 rfl rfl ?_
    refine nd_callV (mm2 := mX6_size) (As := []) (mc2 := 0) (ms2 := 0) (d2 := d - 1) hC rfl lkX1_340 ⟨rfl, lmX6_size⟩ (z5) rfl (Nat.le_of_ble_eq_true rfl) (by omega) rfl (by exact Nat.le_of_ble_eq_true rfl) (by omega) (by omega) dX1_perform_14 rfl ((ty_size hg hT hq30 ?_))
    first | with_reducible refine nd_icmp_geN hC (tgt := 76) (by omega) (by omega) dX1_perform_17 (by decide) (fun hq => ?_) (fun hq => ?_) | refine nd_icmp_ge hC (tgt := 76) dX1_perform_17 (by decide) (fun hq => ?_) (fun hq => ?_)
    · omega
    refine nd_aload_n hC dX1_perform_20 rfl rfl ?_
    refine nd_aload_n hC dX1_perform_21 rfl rfl ?_
    refine nd_get (ci := nX1) hC in_X1 rfl hO 0 (by decide) q384 (fun _ z => z) rfl dX1_perform_22 ?_
    refine nd_aload_n hC dX1_perform_25 rfl rfl ?_
    refine nd_iload_n hC dX1_perform_26 rfl ?_
    refine nd_callV (mm2 := mX6_at) (As := [_]) (mc2 := 0) (ms2 := 0) (d2 := d - 1) hC rfl lkX1_341 ⟨rfl, lmX6_at⟩ (z5) rfl (Nat.le_of_ble_eq_true rfl) (by omega) rfl (by exact Nat.le_of_ble_eq_true rfl) (by omega) (by omega) dX1_perform_27 rfl ((ty_get hg hT hq30 (by omega) ?_))
    rw [hv]
    refine nd_callV (mm2 := mX1_whyNot) (As := [_, _]) (mc2 := 0) (ms2 := 0) (d2 := d - 1) hC rfl lkX1_344 ⟨rfl, lmX1_whyNot⟩ (hO) rfl (Nat.le_of_ble_eq_true rfl) (by omega) rfl (by exact Nat.le_of_ble_eq_true rfl) (by omega) (by omega) dX1_perform_30 rfl ((cx_whyNot (dd := sy_d S) hg (by omega) hS hs hK (Or.inl rfl) hkk.2.1 hS.1.2.1 v ?_))
    intro h2 f2 fw hs2 hK2
    have h3l : 123 ≤ h2.length := by have := fw.1; omega
    have fr2 : cw_fr h h2 := hf.trans (fw.fr hl)
    have ep : pf_go (sy_p S) (v :: vs) k = if dd_why (sy_p S) v.toInt = 0 then pf_go (if v.toInt = -1 then sy_p S else (sy_N S, dd_do (sy_c S) v.toInt, sv_keep (sy_d S) (sy_c S))) vs (k + 1) else (k, sy_p S) := rfl
    rw [ep] at hk
    by_cases hw : dd_why (sy_p S) v.toInt = 0
    rotate_left
    · rw [if_neg hw] at hk
      first | with_reducible refine nd_if_eqB hC (tgt := 38) dX1_perform_33 (by decide) (fun hq3 => ?_) (fun hq3 => ?_) | with_reducible refine nd_if_eqN hC (tgt := 38) (by omega) dX1_perform_33 (by decide) (fun hq3 => ?_) (fun hq3 => ?_) | refine nd_if_eq hC (tgt := 38) dX1_perform_33 (by decide) (fun hq3 => ?_) (fun hq3 => ?_)
      · exfalso
        have hq3 : nI (dd_why (sy_p S) v.toInt) = 0 := hq3
        have hle := dd_why_le (sy_p S) v.toInt
        have := congrArg Int32.toInt hq3
        rw [nI_toInt (by omega), Int32.toInt_zero] at this
        omega
      · refine nd_iload_n hC dX1_perform_36 rfl ?_
        refine nd_ireturn hC rfl (by first | rfl | exact nd_b_nar _) (by omega) (by omega) dX1_perform_37 ((hk h2 ⟨hs2, o, nap, ds, gi, dss, hK2⟩ fr2))
    rw [if_pos hw] at hk
    first | with_reducible refine nd_if_eqB hC (tgt := 38) dX1_perform_33 (by decide) (fun hq3 => ?_) (fun hq3 => ?_) | with_reducible refine nd_if_eqN hC (tgt := 38) (by omega) dX1_perform_33 (by decide) (fun hq3 => ?_) (fun hq3 => ?_) | refine nd_if_eq hC (tgt := 38) dX1_perform_33 (by decide) (fun hq3 => ?_) (fun hq3 => ?_)
    rotate_left
    · exact absurd (by show nI (dd_why (sy_p S) v.toInt) = 0; rw [hw]; rfl) hq3
    rcases ty_cases hK2 hc ht hx with ⟨z, -⟩ | ⟨q2, b2, y1, y2, y3, y4, y5, hT2⟩
    · rw [z1] at z
      cases z
    rw [hst] at y4
    cases y4
    refine nd_aload_n hC dX1_perform_38 rfl rfl ?_
    refine nd_iload_n hC dX1_perform_39 rfl ?_
    refine nd_callV (mm2 := mX6_at) (As := [_]) (mc2 := 0) (ms2 := 0) (d2 := d - 1) hC rfl lkX1_341 ⟨rfl, lmX6_at⟩ (y5) rfl (Nat.le_of_ble_eq_true rfl) (by omega) rfl (by exact Nat.le_of_ble_eq_true rfl) (by omega) (by omega) dX1_perform_40 rfl ((ty_get hg hT2 hq30 (by omega) ?_))
    rw [hv]
    refine nd_ldc2 hC q900 dX1_perform_43 ?_
    refine nd_lcmp_ne hC (tgt := 53) dX1_perform_46 dX1_perform_47 (by decide) (fun hc1 => ?_) (fun hc1 => ?_)
    · rw [l_eq_neg1] at hc1
      rw [if_neg hc1] at hk
      obtain ⟨⟨x2, hO2⟩, -⟩ := id hK2
      unfold cx_O at hO2
      refine nd_aload_n hC dX1_perform_53 rfl rfl ?_
      refine nd_callV (mm2 := mX1_notes) (As := []) (mc2 := 9) (ms2 := 48) (d2 := d - 1) hC rfl lkX1_297 ⟨rfl, lmX1_notes⟩ (hO2) rfl (Nat.le_of_ble_eq_true rfl) (by omega) rfl (by exact Nat.le_of_ble_eq_true rfl) (by omega) (by omega) dX1_perform_54 rfl ((cx_notes hg (by omega) ⟨hs2, o, nap, ds, gi, dss, hK2⟩ hS h3l ?_))
      intro h3 hI3 fr3
      obtain ⟨hs3, o3, nap3, ds3, gi3, dss3, hK3⟩ := id hI3
      obtain ⟨⟨x3, hO3⟩, -, hkk3, -⟩ := id hK3
      unfold cx_O at hO3
      rcases ty_cases hK3 hc ht hx with ⟨z, -⟩ | ⟨q2, b3, y1, y2, y3, y4, y5, hT3⟩
      · have z : ty_f x S = 2 := z
        rw [z1] at z
        cases z
      have y4 : sy_t S t = some q2 := y4
      rw [hst] at y4
      cases y4
      refine nd_aload_n hC dX1_perform_57 rfl rfl ?_
      refine nd_get (ci := nX1) hC in_X1 rfl hO3 0 (by decide) q384 (fun _ z => z) rfl dX1_perform_58 ?_
      refine nd_aload_n hC dX1_perform_61 rfl rfl ?_
      refine nd_iload_n hC dX1_perform_62 rfl ?_
      refine nd_callV (mm2 := mX6_at) (As := [_]) (mc2 := 0) (ms2 := 0) (d2 := d - 1) hC rfl lkX1_341 ⟨rfl, lmX6_at⟩ (y5) rfl (Nat.le_of_ble_eq_true rfl) (by omega) rfl (by exact Nat.le_of_ble_eq_true rfl) (by omega) (by omega) dX1_perform_63 rfl ((ty_get hg hT3 hq30 (by omega) ?_))
      rw [hv]
      have hr := dd_why_rng hw
      first | with_reducible refine nd_l2iN hC dX1_perform_66 ?_ | refine nd_l2i hC dX1_perform_66 ?_
      refine nd_callS (mm2 := mX1_does) (As := [_, _]) (mc2 := 0) (ms2 := 0) (d2 := d - 1) hC rfl lkX1_348 lmX1_does (Nat.le_of_ble_eq_true rfl) (by omega) rfl (by exact Nat.le_of_ble_eq_true rfl) (by omega) (by omega) dX1_perform_67 rfl ((cs_does (P := sy_p S) (z := v.toInt) hg (by omega) (l2i_small hr) hkk3.2.1 hS.1 hw ?_))
      intro h4 f4 s4
      have hK4 : cw_K o3 nap3 ds3 gi3 dss3 (sy_dd S v.toInt) h4 := hK3.st f4 s4
      first | with_reducible refine nd_iincN hC dX1_perform_70 rfl (Nat.le_of_ble_eq_true rfl) ?_ | refine nd_iinc hC dX1_perform_70 rfl rfl (Nat.le_of_ble_eq_true rfl) ?_
      refine nd_goto hC (tgt := 12) dX1_perform_73 (by decide) ?_
      exact ih (k + 1) (sy_dd S v.toInt) h4 _ _ (sy_dd_ok hS hw) ⟨f4.sc hs3, o3, nap3, ds3, gi3, dss3, hK4⟩ (by have := fr3.1; rw [f4.1]; omega) (fr2.trans (fr3.trans f4.fr)) hst hdr2 (by omega) (by omega) hk (by omega)
    · rw [l_eq_neg1] at hc1
      rw [if_pos hc1] at hk
      refine nd_goto hC (tgt := 70) dX1_perform_50 (by decide) ?_
      first | with_reducible refine nd_iincN hC dX1_perform_70 rfl (Nat.le_of_ble_eq_true rfl) ?_ | refine nd_iinc hC dX1_perform_70 rfl rfl (Nat.le_of_ble_eq_true rfl) ?_
      refine nd_goto hC (tgt := 12) dX1_perform_73 (by decide) ?_
      exact ih (k + 1) S h2 _ _ hS ⟨hs2, o, nap, ds, gi, dss, hK2⟩ h3l fr2 hst hdr2 (by omega) (by omega) hk (by omega)
end CP74

