set_option maxRecDepth 100000
theorem lk_one_col {n : Nat} {l : List (List Nat)} (hok : lk_ok n l) (h1 : l.length ≤ 1) : (0 < n → 0 < l.length) ∧ (l.getD 0 []).length = n := by
  have h := lk_len hok
  match l, h1 with
  | [], _ => simp at h; exact ⟨fun q => by omega, by simp; omega⟩
  | [c], _ => simp at h; exact ⟨fun _ => by simp, by simp; exact h⟩
section BO95
variable {g : nd_G} {d : Nat} {K : nd_K} {h : nd_H} {L b n : Nat} {l : List (List Nat)}
theorem cq_soX31 (hg : nd_OK g) {sa : Nat} {sf : Nat → Int32} {folds : Int32} {x0 x1 x2 x3 x4 x5 x6 x8 : Value} (hb : h[b]? = some (.inr (nX31, [x0, x1, x2, x3, x4, x5, x6, .ref sa, x8]))) (hs : h[sa]? = some (.inl (0, n, .inl sf))) (hL : ck_lk h L l) (hok : lk_ok n l) (hn : n ≤ 6) (hk : K (.inl (some (.int (nd_b (decide (l.length ≤ 1) && (List.range n).all (fun k => decide (nI ((l.getD 0 []).getD k 0 / 2) = sf k))))))) h) : nd_M g mX31_isSo d 0 0 [.ref b, .ref L, .int folds] h K := by
  obtain ⟨w, hi, co, hL, rfl, hlc⟩ := hL
  have hwd := lk_width hok
  refine nd_enter hg (by decide) rfl (Nat.le_of_ble_eq_true rfl) (fun X hC => ?_)
  refine nd_aload_n hC dX31_isSo_0 rfl rfl ?_
  refine nd_getN (ci := nX4) hC in_X4 rfl hL.1 2 (by decide) q339 (fun _ z => z) rfl dX31_isSo_1 ?_
  refine nd_iconst hC (v := nI 1) (by rfl) dX31_isSo_4 ?_
  first | with_reducible refine nd_icmp_leN hC (tgt := 10) (by omega) (by omega) dX31_isSo_5 (by decide) (fun hc => ?_) (fun hc => ?_) | refine nd_icmp_le hC (tgt := 10) dX31_isSo_5 (by decide) (fun hc => ?_) (fun hc => ?_)
  · rw [decide_eq_true hc, Bool.true_and] at hk
    obtain ⟨hp, hlen⟩ := lk_one_col hok hc
    refine nd_iconst hC (v := nI 0) (by rfl) dX31_isSo_10 ?_
    refine nd_istore_n hC dX31_isSo_11 (Nat.le_of_ble_eq_true rfl) ?_
    have L1 : ∀ k, k ≤ n → (∀ j, j < k → decide (nI ((l.getD 0 []).getD j 0 / 2) = sf j) = true) → nd_W g mX31_isSo d 0 0 K X 12 [some (.ref b), some (.ref L), some (.int folds), some (.int (nI k))] [] h 0 0 := by
      refine nd_for _ _ ?_ ?_
      · intro ha
        rw [nd_allT ha] at hk
        refine nd_iload_n hC dX31_isSo_12 rfl ?_
        refine nd_aload_n hC dX31_isSo_13 rfl rfl ?_
        refine nd_get (ci := nX31) hC in_X31 rfl hb 7 (by decide) q2334 (fun _ z => z) rfl dX31_isSo_14 ?_
        refine nd_alen hC rfl hs dX31_isSo_17 ?_
        first | with_reducible refine nd_icmp_geN hC (tgt := 48) (by omega) (by omega) dX31_isSo_18 (by decide) (fun hq => ?_) (fun hq => ?_) | refine nd_icmp_ge hC (tgt := 48) dX31_isSo_18 (by decide) (fun hq => ?_) (fun hq => ?_)
        · refine nd_iconst hC (v := nI 1) (by rfl) dX31_isSo_48 ?_
          refine nd_ireturn hC rfl (by first | rfl | exact nd_b_nar _) (by omega) (by omega) dX31_isSo_49 (hk)
        · omega
      · intro k hk1 ih ha
        have hw0 := hp (by omega)
        have hcc := hlc 0 hw0
        have hx := (lk_at_lt hok hn (x := (l.getD 0 []).getD k 0) ⟨hw0, by omega, rfl⟩).1
        refine nd_iload_n hC dX31_isSo_12 rfl ?_
        refine nd_aload_n hC dX31_isSo_13 rfl rfl ?_
        refine nd_get (ci := nX31) hC in_X31 rfl hb 7 (by decide) q2334 (fun _ z => z) rfl dX31_isSo_14 ?_
        refine nd_alen hC rfl hs dX31_isSo_17 ?_
        first | with_reducible refine nd_icmp_geN hC (tgt := 48) (by omega) (by omega) dX31_isSo_18 (by decide) (fun hq => ?_) (fun hq => ?_) | refine nd_icmp_ge hC (tgt := 48) dX31_isSo_18 (by decide) (fun hq => ?_) (fun hq => ?_)
        · omega
        refine nd_aload_n hC dX31_isSo_21 rfl rfl ?_
        refine nd_getN (ci := nX4) hC in_X4 rfl hL.1 0 (by decide) q333 (fun _ z => z) rfl dX31_isSo_22 ?_
        refine nd_iconst hC (v := nI 0) (by rfl) dX31_isSo_25 ?_
        refine nd_aaloadN hC rfl rfl hL.2.1 (by omega) (by omega) dX31_isSo_26 ?_
        refine nd_iload_n hC dX31_isSo_27 rfl ?_
        refine nd_ialoadN hC (hL.2.2.1 _ (by omega)) (by omega) (by omega) dX31_isSo_28 ?_
        refine nd_v_eq (congrArg Value.int (hcc.2 k (by omega))) ?_
        refine nd_iconst hC (v := nI 2) (by rfl) dX31_isSo_29 ?_
        first | with_reducible refine nd_idivN hC (by omega) (by omega) (by omega) dX31_isSo_30 ?_ | refine nd_idiv hC (by decide) dX31_isSo_30 ?_
        refine nd_aload_n hC dX31_isSo_31 rfl rfl ?_
        refine nd_get (ci := nX31) hC in_X31 rfl hb 7 (by decide) q2334 (fun _ z => z) rfl dX31_isSo_32 ?_
        refine nd_iload_n hC dX31_isSo_35 rfl ?_
        refine nd_ialoadN hC hs (by omega) (by omega) dX31_isSo_36 ?_
        refine nd_icmp_eq hC (tgt := 42) dX31_isSo_37 (by decide) (fun hq2 => ?_) (fun hq2 => ?_)
        · first | with_reducible refine nd_iincN hC dX31_isSo_42 rfl (Nat.le_of_ble_eq_true rfl) ?_ | refine nd_iinc hC dX31_isSo_42 rfl rfl (Nat.le_of_ble_eq_true rfl) ?_
          refine nd_goto hC (tgt := 12) dX31_isSo_45 (by decide) ?_
          refine ih (fun j hj => ?_)
          by_cases e : j = k
          · subst e; exact decide_eq_true hq2
          · exact ha j (by omega)
        · rw [nd_allF hk1 (decide_eq_false hq2)] at hk
          refine nd_iconst hC (v := nI 0) (by rfl) dX31_isSo_40 ?_
          refine nd_ireturn hC rfl (by first | rfl | exact nd_b_nar _) (by omega) (by omega) dX31_isSo_41 (hk)
    exact L1 0 (Nat.zero_le _) (fun j hj => absurd hj (Nat.not_lt_zero _))
  · rw [decide_eq_false (by omega), Bool.false_and] at hk
    refine nd_iconst hC (v := nI 0) (by rfl) dX31_isSo_8 ?_
    refine nd_ireturn hC rfl (by first | rfl | exact nd_b_nar _) (by omega) (by omega) dX31_isSo_9 (hk)
end BO95

