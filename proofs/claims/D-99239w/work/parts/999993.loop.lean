set_option maxRecDepth 100000
/-! ===== the law: its loop ===== -/
theorem i_and63 (x : Int32) : ∃ c : Nat, c < 64 ∧ (x &&& nI 63) = nI c := by
  refine ⟨(x &&& nI 63).toBitVec.toNat, ?_, ?_⟩
  · rw [Int32.toBitVec_and]
    rw [BitVec.toNat_and]
    exact Nat.lt_of_le_of_lt Nat.and_le_right (by decide)
  · apply Int32.toBitVec_inj.1
    apply BitVec.eq_of_toNat_eq
    show _ = (Int32.ofNat _).toBitVec.toNat
    rw [Int32.toBitVec_ofNat', BitVec.toNat_ofNat, Nat.mod_eq_of_lt (BitVec.isLt _)]
theorem lw_I.on {n : Nat} {S : sy_S} {h : nd_H} (H : lw_I n S h) : lw_I (n + 1) S h := by
  obtain ⟨a1, a2, a3, a4, A, F, B, m1, m2⟩ := H
  exact ⟨a1, a2, a3, a4, A, F, B, m1.keep (by omega) (fun _ _ => rfl) (fun _ _ => rfl) rfl, m2⟩
section LP93
variable {g : nd_G} {d mc ms : Nat} {K : nd_K} {X : nd_X} {L : Nat} {xs : Nat → Int32}
theorem lw_loop (hg : nd_OK g) (hd : 1100 ≤ d) (hC : nd_Cx g mL_law X) (hx : sc_X g L xs) (hL : L ≤ 384) (hk : ∀ h2, K (.inl (some (.int (nI 1)))) h2) {c0 s0 : Nat} (hc : c0 + 2000 * 65 ≤ mc) (hs : s0 + 81000 * 65 ≤ ms) : ∀ (f n : Nat) (S : sy_S) (h : nd_H), 65 - n ≤ f → n ≤ 64 → lw_I n S h → nd_W g mL_law d mc ms K X 23 (lw_lv (6 * n)) [] h (c0 + 2000 * n) (s0 + 81000 * n) := by
  intro f
  induction f with
  | zero => intro n S h z1 z2; omega
  | succ f ih =>
    intro n S h z1 z2 HI
    unfold lw_lv
    refine nd_iload hC dL_law_23 rfl ?_
    refine nd_aload_n hC dL_law_25 rfl rfl ?_
    refine nd_slen hC hx dL_law_26 ?_
    refine nd_bipush hC (v := nI 6) (by rfl) dL_law_27 ?_
    first | with_reducible refine nd_isubN hC (by omega) dL_law_29 ?_ | refine nd_isub hC dL_law_29 ?_
    refine nd_icmp_gt hC (tgt := 2735) dL_law_30 (by decide) (fun hq => ?_) (fun hq => ?_)
    · refine nd_iconst hC (v := nI 1) (by rfl) dL_law_2735 ?_
      exact nd_ireturn hC rfl (by first | rfl | exact nd_b_nar _) (by omega) (by omega) dL_law_2736 (hk h)
    rw [Int32.lt_iff_toInt_lt, nd_ti (by omega) (by omega), nI_toInt (by omega)] at hq
    have hi : 6 * n + 6 ≤ L := by omega
    have NX : ∀ S2 h2, lw_I (n + 1) S2 h2 → nd_W g mL_law d mc ms K X 2729 (lw_lv (6 * n)) [] h2 (c0 + 2000 * n + 2000) (s0 + 81000 * n + 81000) := by
      intro S2 h2 I2
      unfold lw_lv
      refine nd_iinc hC dL_law_2729 rfl (nI_add (6 * n) 6) (Nat.le_of_ble_eq_true rfl) ?_
      refine nd_goto hC (tgt := 23) dL_law_2732 (by decide) ?_
      exact nd_widen (by omega) (by omega) (ih (n + 1) S2 h2 (by omega) (by omega) I2)
    refine nd_aload_n hC dL_law_33 rfl rfl ?_
    refine nd_iload hC dL_law_34 rfl ?_
    refine nd_sald (j := 6 * n) hC hx (by omega) (by omega) dL_law_36 ?_
    refine nd_bipush hC (v := nI 63) (by rfl) dL_law_37 ?_
    refine nd_iand hC dL_law_39 ?_
    obtain ⟨c, hc64, hce⟩ := i_and63 (xs (6 * n))
    rw [hce]
    by_cases hc48 : c < 48
    rotate_left
    · refine nd_tableOut hC dL_law_40 (Or.inr (by rw [nI_toInt (by omega)]; omega)) (tgt := 2729) (by decide) ?_
      exact nd_widen (by omega) (by omega) (NX S h HI.on)
    match c, hc48 with
    | 0, _ =>
      refine nd_tableIn hC dL_law_40 (by decide) (by decide) (tgt := 248) (by rfl) (by decide) ?_
      exact lc_0 hg hd hC hx hi hL z2 HI (by omega) (by omega) NX
    | 1, _ =>
      refine nd_tableIn hC dL_law_40 (by decide) (by decide) (tgt := 321) (by rfl) (by decide) ?_
      exact lc_1 hg hd hC hx hi hL z2 HI (by omega) (by omega) NX
    | 2, _ =>
      refine nd_tableIn hC dL_law_40 (by decide) (by decide) (tgt := 377) (by rfl) (by decide) ?_
      exact lc_2 hg hd hC hx hi hL z2 HI (by omega) (by omega) NX
    | 3, _ =>
      refine nd_tableIn hC dL_law_40 (by decide) (by decide) (tgt := 402) (by rfl) (by decide) ?_
      exact lc_3 hg hd hC hx hi hL z2 HI (by omega) (by omega) NX
    | 4, _ =>
      refine nd_tableIn hC dL_law_40 (by decide) (by decide) (tgt := 470) (by rfl) (by decide) ?_
      exact lc_4 hg hd hC hx hi hL z2 HI (by omega) (by omega) NX
    | 5, _ =>
      refine nd_tableIn hC dL_law_40 (by decide) (by decide) (tgt := 526) (by rfl) (by decide) ?_
      exact lc_5 hg hd hC hx hi hL z2 HI (by omega) (by omega) NX
    | 6, _ =>
      refine nd_tableIn hC dL_law_40 (by decide) (by decide) (tgt := 594) (by rfl) (by decide) ?_
      exact lc_6 hg hd hC hx hi hL z2 HI (by omega) (by omega) NX
    | 7, _ =>
      refine nd_tableIn hC dL_law_40 (by decide) (by decide) (tgt := 650) (by rfl) (by decide) ?_
      exact lc_7 hg hd hC hx hi hL z2 HI (by omega) (by omega) NX
    | 8, _ =>
      refine nd_tableIn hC dL_law_40 (by decide) (by decide) (tgt := 706) (by rfl) (by decide) ?_
      exact lc_8 hg hd hC hx hi hL z2 HI (by omega) (by omega) NX
    | 9, _ =>
      refine nd_tableIn hC dL_law_40 (by decide) (by decide) (tgt := 762) (by rfl) (by decide) ?_
      exact lc_9 hg hd hC hx hi hL z2 HI (by omega) (by omega) NX
    | 10, _ =>
      refine nd_tableIn hC dL_law_40 (by decide) (by decide) (tgt := 818) (by rfl) (by decide) ?_
      exact lc_10 hg hd hC hx hi hL z2 HI (by omega) (by omega) NX
    | 11, _ =>
      refine nd_tableIn hC dL_law_40 (by decide) (by decide) (tgt := 831) (by rfl) (by decide) ?_
      exact lc_11 hg hd hC hx hi hL z2 HI (by omega) (by omega) NX
    | 12, _ =>
      refine nd_tableIn hC dL_law_40 (by decide) (by decide) (tgt := 844) (by rfl) (by decide) ?_
      exact lc_12 hg hd hC hx hi hL z2 HI (by omega) (by omega) NX
    | 13, _ =>
      refine nd_tableIn hC dL_law_40 (by decide) (by decide) (tgt := 900) (by rfl) (by decide) ?_
      exact lc_13 hg hd hC hx hi hL z2 HI (by omega) (by omega) NX
    | 14, _ =>
      refine nd_tableIn hC dL_law_40 (by decide) (by decide) (tgt := 937) (by rfl) (by decide) ?_
      exact lc_14 hg hd hC hx hi hL z2 HI (by omega) (by omega) NX
    | 15, _ =>
      refine nd_tableIn hC dL_law_40 (by decide) (by decide) (tgt := 981) (by rfl) (by decide) ?_
      exact lc_15 hg hd hC hx hi hL z2 HI (by omega) (by omega) NX
    | 16, _ =>
      refine nd_tableIn hC dL_law_40 (by decide) (by decide) (tgt := 1025) (by rfl) (by decide) ?_
      exact lc_16 hg hd hC hx hi hL z2 HI (by omega) (by omega) NX
    | 17, _ =>
      refine nd_tableIn hC dL_law_40 (by decide) (by decide) (tgt := 1105) (by rfl) (by decide) ?_
      exact lc_17 hg hd hC hx hi hL z2 HI (by omega) (by omega) NX
    | 18, _ =>
      refine nd_tableIn hC dL_law_40 (by decide) (by decide) (tgt := 1161) (by rfl) (by decide) ?_
      exact lc_18 hg hd hC hx hi hL z2 HI (by omega) (by omega) NX
    | 19, _ =>
      refine nd_tableIn hC dL_law_40 (by decide) (by decide) (tgt := 1229) (by rfl) (by decide) ?_
      exact lc_19 hg hd hC hx hi hL z2 HI (by omega) (by omega) NX
    | 20, _ =>
      refine nd_tableIn hC dL_law_40 (by decide) (by decide) (tgt := 1285) (by rfl) (by decide) ?_
      exact lc_20 hg hd hC hx hi hL z2 HI (by omega) (by omega) NX
    | 21, _ =>
      refine nd_tableIn hC dL_law_40 (by decide) (by decide) (tgt := 1353) (by rfl) (by decide) ?_
      exact lc_21 hg hd hC hx hi hL z2 HI (by omega) (by omega) NX
    | 22, _ =>
      refine nd_tableIn hC dL_law_40 (by decide) (by decide) (tgt := 1409) (by rfl) (by decide) ?_
      exact lc_22 hg hd hC hx hi hL z2 HI (by omega) (by omega) NX
    | 23, _ =>
      refine nd_tableIn hC dL_law_40 (by decide) (by decide) (tgt := 1465) (by rfl) (by decide) ?_
      exact lc_23 hg hd hC hx hi hL z2 HI (by omega) (by omega) NX
    | 24, _ =>
      refine nd_tableIn hC dL_law_40 (by decide) (by decide) (tgt := 1521) (by rfl) (by decide) ?_
      exact lc_24 hg hd hC hx hi hL z2 HI (by omega) (by omega) NX
    | 25, _ =>
      refine nd_tableIn hC dL_law_40 (by decide) (by decide) (tgt := 1577) (by rfl) (by decide) ?_
      exact lc_25 hg hd hC hx hi hL z2 HI (by omega) (by omega) NX
    | 26, _ =>
      refine nd_tableIn hC dL_law_40 (by decide) (by decide) (tgt := 1645) (by rfl) (by decide) ?_
      exact lc_26 hg hd hC hx hi hL z2 HI (by omega) (by omega) NX
    | 27, _ =>
      refine nd_tableIn hC dL_law_40 (by decide) (by decide) (tgt := 1713) (by rfl) (by decide) ?_
      exact lc_27 hg hd hC hx hi hL z2 HI (by omega) (by omega) NX
    | 28, _ =>
      refine nd_tableIn hC dL_law_40 (by decide) (by decide) (tgt := 1726) (by rfl) (by decide) ?_
      exact lc_28 hg hd hC hx hi hL z2 HI (by omega) (by omega) NX
    | 29, _ =>
      refine nd_tableIn hC dL_law_40 (by decide) (by decide) (tgt := 1789) (by rfl) (by decide) ?_
      exact lc_29 hg hd hC hx hi hL z2 HI (by omega) (by omega) NX
    | 30, _ =>
      refine nd_tableIn hC dL_law_40 (by decide) (by decide) (tgt := 1802) (by rfl) (by decide) ?_
      exact lc_30 hg hd hC hx hi hL z2 HI (by omega) (by omega) NX
    | 31, _ =>
      refine nd_tableIn hC dL_law_40 (by decide) (by decide) (tgt := 1858) (by rfl) (by decide) ?_
      exact lc_31 hg hd hC hx hi hL z2 HI (by omega) (by omega) NX
    | 32, _ =>
      refine nd_tableIn hC dL_law_40 (by decide) (by decide) (tgt := 1871) (by rfl) (by decide) ?_
      exact lc_32 hg hd hC hx hi hL z2 HI (by omega) (by omega) NX
    | 33, _ =>
      refine nd_tableIn hC dL_law_40 (by decide) (by decide) (tgt := 1927) (by rfl) (by decide) ?_
      exact lc_33 hg hd hC hx hi hL z2 HI (by omega) (by omega) NX
    | 34, _ =>
      refine nd_tableIn hC dL_law_40 (by decide) (by decide) (tgt := 1995) (by rfl) (by decide) ?_
      exact lc_34 hg hd hC hx hi hL z2 HI (by omega) (by omega) NX
    | 35, _ =>
      refine nd_tableIn hC dL_law_40 (by decide) (by decide) (tgt := 2008) (by rfl) (by decide) ?_
      exact lc_35 hg hd hC hx hi hL z2 HI (by omega) (by omega) NX
    | 36, _ =>
      refine nd_tableIn hC dL_law_40 (by decide) (by decide) (tgt := 2021) (by rfl) (by decide) ?_
      exact lc_36 hg hd hC hx hi hL z2 HI (by omega) (by omega) NX
    | 37, _ =>
      refine nd_tableIn hC dL_law_40 (by decide) (by decide) (tgt := 2089) (by rfl) (by decide) ?_
      exact lc_37 hg hd hC hx hi hL z2 HI (by omega) (by omega) NX
    | 38, _ =>
      refine nd_tableIn hC dL_law_40 (by decide) (by decide) (tgt := 2145) (by rfl) (by decide) ?_
      exact lc_38 hg hd hC hx hi hL z2 HI (by omega) (by omega) NX
    | 39, _ =>
      refine nd_tableIn hC dL_law_40 (by decide) (by decide) (tgt := 2201) (by rfl) (by decide) ?_
      exact lc_39 hg hd hC hx hi hL z2 HI (by omega) (by omega) NX
    | 40, _ =>
      refine nd_tableIn hC dL_law_40 (by decide) (by decide) (tgt := 2269) (by rfl) (by decide) ?_
      exact lc_40 hg hd hC hx hi hL z2 HI (by omega) (by omega) NX
    | 41, _ =>
      refine nd_tableIn hC dL_law_40 (by decide) (by decide) (tgt := 2337) (by rfl) (by decide) ?_
      exact lc_41 hg hd hC hx hi hL z2 HI (by omega) (by omega) NX
    | 42, _ =>
      refine nd_tableIn hC dL_law_40 (by decide) (by decide) (tgt := 2405) (by rfl) (by decide) ?_
      exact lc_42 hg hd hC hx hi hL z2 HI (by omega) (by omega) NX
    | 43, _ =>
      refine nd_tableIn hC dL_law_40 (by decide) (by decide) (tgt := 2465) (by rfl) (by decide) ?_
      exact lc_43 hg hd hC hx hi hL z2 HI (by omega) (by omega) NX
    | 44, _ =>
      refine nd_tableIn hC dL_law_40 (by decide) (by decide) (tgt := 2576) (by rfl) (by decide) ?_
      exact lc_44 hg hd hC hx hi hL z2 HI (by omega) (by omega) NX
    | 45, _ =>
      refine nd_tableIn hC dL_law_40 (by decide) (by decide) (tgt := 2632) (by rfl) (by decide) ?_
      exact lc_45 hg hd hC hx hi hL z2 HI (by omega) (by omega) NX
    | 46, _ =>
      refine nd_tableIn hC dL_law_40 (by decide) (by decide) (tgt := 2668) (by rfl) (by decide) ?_
      exact lc_46 hg hd hC hx hi hL z2 HI (by omega) (by omega) NX
    | 47, _ =>
      refine nd_tableIn hC dL_law_40 (by decide) (by decide) (tgt := 2704) (by rfl) (by decide) ?_
      exact lc_47 hg hd hC hx hi hL z2 HI (by omega) (by omega) NX
    | k + 48, hk9 => exact absurd hk9 (by omega)
end LP93

