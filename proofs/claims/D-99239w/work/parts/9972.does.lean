set_option maxRecDepth 100000
/-! ===== does ===== -/
section CP72
variable {g : nd_G} {d : Nat} {K : nd_K} {h : nd_H} {nap : Nat}
theorem dd_len {P : sy_P} {z : Int} (hP : sp_ok P) (h : dd_why P z = 0) : (dd_do P.2.1 z).1.length ≤ 5 := lk_val_le hP.1.1 (dd_ok hP h).1
theorem cs_does (hg : nd_OK g) (hd : 1 ≤ d) {a : Nat} {P : sy_P} {z : Int} {v : Int32} (hvz : v.toInt = z) (hS : cs_st h a nap P.2.1) (hP : sp_ok P) (hw : dd_why P z = 0) (hk : ∀ h2, cs_fr a h h2 → cs_st h2 a nap (dd_do P.2.1 z) → K (.inl none) h2) : nd_M g mX1_does d 0 0 [.ref a, .int v] h K := by
  have hw0 := dd_why_0 hw
  have hln := dd_len hP hw
  have hn : nk_n P.1 ≤ 6 := hP.1.1
  obtain ⟨fr, bk, fo, mn, hT, hv⟩ := id hS
  obtain ⟨s1, s2, s3, s4⟩ := id hT
  obtain ⟨hv1, -⟩ := id hv
  subst hv1
  by_cases z1 : z = -1
  · subst z1
    have ev : v = -1 := Int32.toInt_inj.1 hvz
    subst ev
    have e : dd_do P.2.1 (-1) = P.2.1 := rfl
    rw [e] at hk
    refine nd_enter hg (by decide) rfl (Nat.le_of_ble_eq_true rfl) (fun X hC => ?_)
    refine nd_iload_n hC dX1_does_0 rfl ?_
    refine nd_iconst hC (v := -1) (by rfl) dX1_does_1 ?_
    first | with_reducible refine nd_icmp_neN hC (tgt := 6) (by omega) (by omega) dX1_does_2 (by decide) (fun hq => ?_) (fun hq => ?_) | refine nd_icmp_ne hC (tgt := 6) dX1_does_2 (by decide) (fun hq => ?_) (fun hq => ?_)
    · exact absurd rfl hq
    · refine nd_return hC rfl (by omega) (by omega) dX1_does_5 ((hk h ⟨rfl, fun _ _ => rfl⟩ hS))
  obtain ⟨w, hw9, rfl⟩ : ∃ w : Nat, w ≤ 2599 ∧ v = nI w := by
    have := dd_why_rng hw
    refine ⟨v.toInt.toNat, by omega, ?_⟩
    apply Int32.toInt_inj.1
    rw [nI_toInt (by omega)]
    omega
  rw [nI_toInt (by omega)] at hvz
  subst hvz
  refine nd_enter hg (by decide) rfl (Nat.le_of_ble_eq_true rfl) (fun X hC => ?_)
  refine nd_iload_n hC dX1_does_0 rfl ?_
  refine nd_iconst hC (v := -1) (by rfl) dX1_does_1 ?_
  first | with_reducible refine nd_icmp_neN hC (tgt := 6) (by omega) (by omega) dX1_does_2 (by decide) (fun hq => ?_) (fun hq => ?_) | refine nd_icmp_ne hC (tgt := 6) dX1_does_2 (by decide) (fun hq => ?_) (fun hq => ?_)
  rotate_left
  · exfalso
    have := congrArg Int32.toInt hq
    rw [nI_toInt (by omega)] at this
    have e : ((-1 : Int32)).toInt = -1 := by decide
    rw [e] at this
    omega
  refine nd_iload_n hC dX1_does_6 rfl ?_
  refine nd_bipush hC (v := nI 100) (by rfl) dX1_does_7 ?_
  first | with_reducible refine nd_icmp_geN hC (tgt := 27) (by omega) (by omega) dX1_does_9 (by decide) (fun hq2 => ?_) (fun hq2 => ?_) | refine nd_icmp_ge hC (tgt := 27) dX1_does_9 (by decide) (fun hq2 => ?_) (fun hq2 => ?_)
  · refine nd_iload_n hC dX1_does_27 rfl ?_
    refine nd_sipush hC (v := nI 1000) (by rfl) dX1_does_28 ?_
    first | with_reducible refine nd_icmp_geN hC (tgt := 58) (by omega) (by omega) dX1_does_31 (by decide) (fun hq3 => ?_) (fun hq3 => ?_) | refine nd_icmp_ge hC (tgt := 58) dX1_does_31 (by decide) (fun hq3 => ?_) (fun hq3 => ?_)
    · refine nd_aload_n hC dX1_does_58 rfl rfl ?_
      refine nd_iload_n hC dX1_does_59 rfl ?_
      refine nd_sipush hC (v := nI 1000) (by rfl) dX1_does_60 ?_
      first | with_reducible refine nd_iremN hC (by omega) (by omega) (by omega) dX1_does_63 ?_ | refine nd_irem hC (by decide) dX1_does_63 ?_
      refine nd_bipush hC (v := nI 100) (by rfl) dX1_does_64 ?_
      first | with_reducible refine nd_idivN hC (by omega) (by omega) (by omega) dX1_does_66 ?_ | refine nd_idiv hC (by decide) dX1_does_66 ?_
      refine nd_iload_n hC dX1_does_67 rfl ?_
      refine nd_sipush hC (v := nI 2000) (by rfl) dX1_does_68 ?_
      first | with_reducible refine nd_icmp_geN hC (tgt := 78) (by omega) (by omega) dX1_does_71 (by decide) (fun hq4 => ?_) (fun hq4 => ?_) | refine nd_icmp_ge hC (tgt := 78) dX1_does_71 (by decide) (fun hq4 => ?_) (fun hq4 => ?_)
      · refine nd_iconst hC (v := nI 1) (by rfl) dX1_does_78 ?_
        refine nd_iload_n hC dX1_does_79 rfl ?_
        refine nd_bipush hC (v := nI 100) (by rfl) dX1_does_80 ?_
        first | with_reducible refine nd_iremN hC (by omega) (by omega) (by omega) dX1_does_82 ?_ | refine nd_irem hC (by decide) dX1_does_82 ?_
        have e : dd_do P.2.1 (w : Int) = (P.2.1.1, P.2.1.2.1, P.2.1.2.2.set (w % 1000 / 100) (w % 100)) := by
          unfold dd_do
          rw [if_neg (by omega), if_neg (by omega), if_neg (by omega), if_neg (by omega), if_neg (by omega), Int.toNat_natCast]
        rw [e] at hk
        refine nd_callS (mm2 := mX1_marks) (As := [_, _, _, _]) (mc2 := 0) (ms2 := 0) (d2 := d - 1) hC rfl lkX1_308 lmX1_marks (Nat.le_of_ble_eq_true rfl) (by omega) rfl (by exact Nat.le_of_ble_eq_true rfl) (by omega) (by omega) dX1_does_83 rfl ((cs_marks1 (n := nk_n P.1) hg hS hP.2.1 hn (by omega) ?_))
        intro h2 f2 t2
        refine nd_pop hC (by rfl) dX1_does_86 ?_
        refine nd_return hC rfl (by omega) (by omega) dX1_does_87 ((hk h2 f2 t2))
      · refine nd_iconst hC (v := nI 0) (by rfl) dX1_does_74 ?_
        refine nd_goto hC (tgt := 79) dX1_does_75 (by decide) ?_
        refine nd_iload_n hC dX1_does_79 rfl ?_
        refine nd_bipush hC (v := nI 100) (by rfl) dX1_does_80 ?_
        first | with_reducible refine nd_iremN hC (by omega) (by omega) (by omega) dX1_does_82 ?_ | refine nd_irem hC (by decide) dX1_does_82 ?_
        have e : dd_do P.2.1 (w : Int) = (P.2.1.1, P.2.1.2.1.set (w % 1000 / 100) (w % 100), P.2.1.2.2) := by
          unfold dd_do
          rw [if_neg (by omega), if_neg (by omega), if_neg (by omega), if_neg (by omega), if_pos (by omega), Int.toNat_natCast]
        rw [e] at hk
        refine nd_callS (mm2 := mX1_marks) (As := [_, _, _, _]) (mc2 := 0) (ms2 := 0) (d2 := d - 1) hC rfl lkX1_308 lmX1_marks (Nat.le_of_ble_eq_true rfl) (by omega) rfl (by exact Nat.le_of_ble_eq_true rfl) (by omega) (by omega) dX1_does_83 rfl ((cs_marks0 (n := nk_n P.1) hg hS hP.2.1 hn (by omega) ?_))
        intro h2 f2 t2
        refine nd_pop hC (by rfl) dX1_does_86 ?_
        refine nd_return hC rfl (by omega) (by omega) dX1_does_87 ((hk h2 f2 t2))
    · refine nd_aload_n hC dX1_does_34 rfl rfl ?_
      refine nd_iload_n hC dX1_does_35 rfl ?_
      refine nd_sipush hC (v := nI 200) (by rfl) dX1_does_36 ?_
      first | with_reducible refine nd_icmp_neN hC (tgt := 46) (by omega) (by omega) dX1_does_39 (by decide) (fun hq4 => ?_) (fun hq4 => ?_) | refine nd_icmp_ne hC (tgt := 46) dX1_does_39 (by decide) (fun hq4 => ?_) (fun hq4 => ?_)
      · have z2 : w = 100 := by omega
        subst z2
        have e : dd_do P.2.1 ((100 : Nat) : Int) = (P.2.1.1.take (P.2.1.1.length - 1), P.2.1.2.1, P.2.1.2.2) := by rw [← List.dropLast_eq_take]; rfl
        rw [e] at hk
        have h5 := lk_val_le hn hP.2.1.1
        refine nd_aload_n hC dX1_does_46 rfl rfl ?_
        refine nd_getN (ci := nX2) hC in_X2 rfl s1 4 (by decide) q310 (fun _ z => z) rfl dX1_does_47 ?_
        refine nd_iconst hC (v := nI 1) (by rfl) dX1_does_50 ?_
        refine nd_isub hC dX1_does_51 ?_
        refine nd_v_eq (y := .int (nI (P.2.1.1.length - 1))) (by
          show Value.int (nI P.2.1.1.length - nI 1) = _
          congr 1
          apply Int32.toInt_inj.1
          rw [nd_ti (by omega) (by omega), nI_toInt (by omega)]
          omega) ?_
        refine cs_putMN hC s1 q310 dX1_does_52 ?_
        refine nd_goto hC (tgt := 87) dX1_does_55 (by decide) ?_
        refine nd_return hC rfl (by omega) (by omega) dX1_does_87 ((hk _ (cs_fr.set (Or.inl rfl)) (hT.cut (k := P.2.1.1.length - 1) hv (Nat.sub_le _ _))))
      · have z2 : w = 200 := by omega
        subst z2
        have e : dd_do P.2.1 ((200 : Nat) : Int) = (P.2.1.1.take 0, P.2.1.2.1, P.2.1.2.2) := rfl
        rw [e] at hk
        refine nd_iconst hC (v := nI 0) (by rfl) dX1_does_42 ?_
        refine nd_goto hC (tgt := 52) dX1_does_43 (by decide) ?_
        refine cs_putMN hC s1 q310 dX1_does_52 ?_
        refine nd_goto hC (tgt := 87) dX1_does_55 (by decide) ?_
        refine nd_return hC rfl (by omega) (by omega) dX1_does_87 ((hk _ (cs_fr.set (Or.inl rfl)) (hT.cut (k := 0) hv (Nat.zero_le _))))
  · have e : dd_do P.2.1 (w : Int) = (P.2.1.1 ++ [10 * (w / 10) + w % 10], P.2.1.2.1, P.2.1.2.2) := by
      unfold dd_do
      rw [if_neg (by omega), if_pos (by omega), Int.toNat_natCast, show 10 * (w / 10) + w % 10 = w by omega]
    rw [e] at hk hln
    have h5 : P.2.1.1.length < 5 := by
      have hln : (P.2.1.1 ++ [10 * (w / 10) + w % 10]).length ≤ 5 := hln
      rw [List.length_append] at hln
      exact hln
    refine nd_aload_n hC dX1_does_12 rfl rfl ?_
    refine nd_iload_n hC dX1_does_13 rfl ?_
    refine nd_bipush hC (v := nI 10) (by rfl) dX1_does_14 ?_
    first | with_reducible refine nd_idivN hC (by omega) (by omega) (by omega) dX1_does_16 ?_ | refine nd_idiv hC (by decide) dX1_does_16 ?_
    refine nd_iload_n hC dX1_does_17 rfl ?_
    refine nd_bipush hC (v := nI 10) (by rfl) dX1_does_18 ?_
    first | with_reducible refine nd_iremN hC (by omega) (by omega) (by omega) dX1_does_20 ?_ | refine nd_irem hC (by decide) dX1_does_20 ?_
    refine nd_callV (mm2 := mX2_folds) (As := [_, _]) (mc2 := 0) (ms2 := 0) (d2 := d - 1) hC rfl lkX1_300 ⟨rfl, lmX2_folds⟩ (s1) rfl (Nat.le_of_ble_eq_true rfl) (by omega) rfl (by exact Nat.le_of_ble_eq_true rfl) (by omega) (by omega) dX1_does_21 rfl ((cs_folds hg hS h5 ?_))
    intro h2 f2 t2
    refine nd_goto hC (tgt := 87) dX1_does_24 (by decide) ?_
    refine nd_return hC rfl (by omega) (by omega) dX1_does_87 ((hk h2 f2 t2))
end CP72

