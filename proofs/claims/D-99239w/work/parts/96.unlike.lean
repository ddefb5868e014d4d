set_option maxRecDepth 100000
/-- how many unlike values, in a sorted row -/
def su_cnt (f : Nat → Int64) : Nat → Nat
  | 0 => 0
  | k + 1 => su_cnt f k + (if k = 0 ∨ f k ≠ f (k - 1) then 1 else 0)
theorem su_cnt_le (f : Nat → Int64) : ∀ k, su_cnt f k ≤ k := by
  intro k
  induction k with
  | zero => exact Nat.le_refl _
  | succ k ih => show su_cnt f k + _ ≤ _; split <;> omega
section UN96
variable {g : nd_G} {d : Nat} {K : nd_K} {h : nd_H} {b : Nat}
theorem cu_unlikeX24 (hg : nd_OK g) (hd : 1 ≤ d) {m mc ms : Nat} {x2 x3 x4 : Value} {Q : (Nat → Int64) → nd_H → Prop} (hm : m ≤ 28000) (hb : h[b]? = some (.inr (nX24, [.int (nI m), .ref 0, x2, x3, x4]))) (hO1 : ∃ tp fkd fat x, cx_O h tp fkd fat x) (E : ∀ K, (∀ f2 h2, Q f2 h2 → K (.inl none) h2) → nd_M g mJ16_sort (d - 1) mc ms [.ref 100, .int (nI 0), .int (nI m)] h K) (hQ : ∀ f2 h2, Q f2 h2 → h2[b]? = h[b]? ∧ h2[0]? = h[0]? ∧ h2[100]? = some (.inl (1, 28000, .inr (.inl f2)))) (hk : ∀ f2 h2, Q f2 h2 → K (.inl (some (.int (nI (su_cnt f2 m))))) h2) : nd_M g mX23_unlike d mc ms [.ref b] h K := by
  obtain ⟨tp, fkd, fat, x, hO⟩ := hO1
  unfold cx_O at hO
  refine nd_enter hg (by decide) rfl (Nat.le_of_ble_eq_true rfl) (fun X hC => ?_)
  refine nd_aload_n hC dX23_unlike_0 rfl rfl ?_
  refine nd_get (ci := nX24) hC in_X24 rfl hb 1 (by decide) q1075 (fun _ z => z) rfl dX23_unlike_1 ?_
  refine nd_getN (ci := nX1) hC in_X1 rfl hO 12 (by decide) q398 (fun _ z => z) rfl dX23_unlike_4 ?_
  refine nd_iconst hC (v := nI 0) (by rfl) dX23_unlike_7 ?_
  refine nd_aload_n hC dX23_unlike_8 rfl rfl ?_
  refine nd_get (ci := nX24) hC in_X24 rfl hb 0 (by decide) q1074 (fun _ z => z) rfl dX23_unlike_9 ?_
  refine nd_callS (mm2 := mJ16_sort) (As := [_, _, _]) (mc2 := mc) (ms2 := ms) (d2 := d - 1) hC rfl lkX23_36 lmJ16_sort (Nat.le_of_ble_eq_true rfl) (by omega) rfl (by exact Nat.le_of_ble_eq_true rfl) (by omega) (by omega) dX23_unlike_12 rfl ((E _ (fun f2 h2 hq2 => ?_)))
  obtain ⟨e1, e2, h100⟩ := hQ f2 h2 hq2
  have hb := e1.trans hb
  have hO := e2.trans hO
  refine nd_iconst hC (v := nI 0) (by rfl) dX23_unlike_15 ?_
  refine nd_istore_n hC dX23_unlike_16 (Nat.le_of_ble_eq_true rfl) ?_
  refine nd_iconst hC (v := nI 0) (by rfl) dX23_unlike_17 ?_
  refine nd_istore_n hC dX23_unlike_18 (Nat.le_of_ble_eq_true rfl) ?_
  have L1 : ∀ k, k ≤ m → nd_W g mX23_unlike d mc ms K X 19 [some (.ref b), some (.int (nI (su_cnt f2 k))), some (.int (nI k))] [] h2 (0 + mc) (0 + ms) := by
    refine nd_for _ _ ?_ ?_
    · refine nd_iload_n hC dX23_unlike_19 rfl ?_
      refine nd_aload_n hC dX23_unlike_20 rfl rfl ?_
      refine nd_get (ci := nX24) hC in_X24 rfl hb 0 (by decide) q1074 (fun _ z => z) rfl dX23_unlike_21 ?_
      first | with_reducible refine nd_icmp_geN hC (tgt := 69) (by omega) (by omega) dX23_unlike_24 (by decide) (fun hq => ?_) (fun hq => ?_) | refine nd_icmp_ge hC (tgt := 69) dX23_unlike_24 (by decide) (fun hq => ?_) (fun hq => ?_)
      · refine nd_iload_n hC dX23_unlike_69 rfl ?_
        refine nd_ireturn hC rfl (by first | rfl | exact nd_b_nar _) (by omega) (by omega) dX23_unlike_70 ((hk f2 h2 hq2))
      · omega
    · intro k hk1 ih
      have hle := su_cnt_le f2 k
      have J : ∀ e, su_cnt f2 (k + 1) = su_cnt f2 k + e → e ≤ 1 → nd_W g mX23_unlike d mc ms K X 61 [some (.ref b), some (.int (nI (su_cnt f2 k))), some (.int (nI k))] [.int (nI e), .int (nI (su_cnt f2 k))] h2 (0 + mc) (0 + ms) := by
        intro e he h1
        rw [he] at ih
        first | with_reducible refine nd_iaddN hC dX23_unlike_61 ?_ | refine nd_iadd hC dX23_unlike_61 ?_
        refine nd_istore_n hC dX23_unlike_62 (Nat.le_of_ble_eq_true rfl) ?_
        first | with_reducible refine nd_iincN hC dX23_unlike_63 rfl (Nat.le_of_ble_eq_true rfl) ?_ | refine nd_iinc hC dX23_unlike_63 rfl rfl (Nat.le_of_ble_eq_true rfl) ?_
        refine nd_goto hC (tgt := 19) dX23_unlike_66 (by decide) ?_
        exact ih
      refine nd_iload_n hC dX23_unlike_19 rfl ?_
      refine nd_aload_n hC dX23_unlike_20 rfl rfl ?_
      refine nd_get (ci := nX24) hC in_X24 rfl hb 0 (by decide) q1074 (fun _ z => z) rfl dX23_unlike_21 ?_
      first | with_reducible refine nd_icmp_geN hC (tgt := 69) (by omega) (by omega) dX23_unlike_24 (by decide) (fun hq => ?_) (fun hq => ?_) | refine nd_icmp_ge hC (tgt := 69) dX23_unlike_24 (by decide) (fun hq => ?_) (fun hq => ?_)
      · omega
      refine nd_iload_n hC dX23_unlike_27 rfl ?_
      refine nd_iload_n hC dX23_unlike_28 rfl ?_
      first | with_reducible refine nd_if_eqB hC (tgt := 56) dX23_unlike_29 (by decide) (fun hq3 => ?_) (fun hq3 => ?_) | with_reducible refine nd_if_eqN hC (tgt := 56) (by omega) dX23_unlike_29 (by decide) (fun hq3 => ?_) (fun hq3 => ?_) | refine nd_if_eq hC (tgt := 56) dX23_unlike_29 (by decide) (fun hq3 => ?_) (fun hq3 => ?_)
      · refine nd_iconst hC (v := nI 1) (by rfl) dX23_unlike_56 ?_
        refine nd_goto hC (tgt := 61) dX23_unlike_57 (by decide) ?_
        exact J 1 (by show su_cnt f2 k + _ = _; rw [if_pos (Or.inl hq3)]) (Nat.le_refl _)
      · refine nd_aload_n hC dX23_unlike_32 rfl rfl ?_
        refine nd_get (ci := nX24) hC in_X24 rfl hb 1 (by decide) q1075 (fun _ z => z) rfl dX23_unlike_33 ?_
        refine nd_getN (ci := nX1) hC in_X1 rfl hO 12 (by decide) q398 (fun _ z => z) rfl dX23_unlike_36 ?_
        refine nd_iload_n hC dX23_unlike_39 rfl ?_
        refine nd_laloadN hC h100 (by omega) (by omega) dX23_unlike_40 ?_
        refine nd_aload_n hC dX23_unlike_41 rfl rfl ?_
        refine nd_get (ci := nX24) hC in_X24 rfl hb 1 (by decide) q1075 (fun _ z => z) rfl dX23_unlike_42 ?_
        refine nd_getN (ci := nX1) hC in_X1 rfl hO 12 (by decide) q398 (fun _ z => z) rfl dX23_unlike_45 ?_
        refine nd_iload_n hC dX23_unlike_48 rfl ?_
        refine nd_iconst hC (v := nI 1) (by rfl) dX23_unlike_49 ?_
        first | with_reducible refine nd_isubN hC (by omega) dX23_unlike_50 ?_ | refine nd_isub hC dX23_unlike_50 ?_
        refine nd_laloadN hC h100 (by omega) (by omega) dX23_unlike_51 ?_
        refine nd_lcmp_eq hC (tgt := 60) dX23_unlike_52 dX23_unlike_53 (by decide) (fun hq4 => ?_) (fun hq4 => ?_)
        · refine nd_iconst hC (v := nI 0) (by rfl) dX23_unlike_60 ?_
          exact J 0 (by show su_cnt f2 k + _ = _; rw [if_neg (fun q => q.elim hq3 (fun q => q hq4))]) (by omega)
        · refine nd_iconst hC (v := nI 1) (by rfl) dX23_unlike_56 ?_
          refine nd_goto hC (tgt := 61) dX23_unlike_57 (by decide) ?_
          exact J 1 (by show su_cnt f2 k + _ = _; rw [if_pos (Or.inr hq4)]) (Nat.le_refl _)
  exact L1 0 (Nat.zero_le _)
theorem cu_unlikeX28 (hg : nd_OK g) (hd : 1 ≤ d) {m mc ms : Nat} {x2 x3 x4 : Value} {Q : (Nat → Int64) → nd_H → Prop} (hm : m ≤ 28000) (hb : h[b]? = some (.inr (nX28, [.int (nI m), .ref 0, x2, x3, x4]))) (hO1 : ∃ tp fkd fat x, cx_O h tp fkd fat x) (E : ∀ K, (∀ f2 h2, Q f2 h2 → K (.inl none) h2) → nd_M g mJ16_sort (d - 1) mc ms [.ref 100, .int (nI 0), .int (nI m)] h K) (hQ : ∀ f2 h2, Q f2 h2 → h2[b]? = h[b]? ∧ h2[0]? = h[0]? ∧ h2[100]? = some (.inl (1, 28000, .inr (.inl f2)))) (hk : ∀ f2 h2, Q f2 h2 → K (.inl (some (.int (nI (su_cnt f2 m))))) h2) : nd_M g mX23_unlike d mc ms [.ref b] h K := by
  obtain ⟨tp, fkd, fat, x, hO⟩ := hO1
  unfold cx_O at hO
  refine nd_enter hg (by decide) rfl (Nat.le_of_ble_eq_true rfl) (fun X hC => ?_)
  refine nd_aload_n hC dX23_unlike_0 rfl rfl ?_
  refine nd_get (ci := nX28) hC in_X28 rfl hb 1 (by decide) q1075 (fun _ z => z) rfl dX23_unlike_1 ?_
  refine nd_getN (ci := nX1) hC in_X1 rfl hO 12 (by decide) q398 (fun _ z => z) rfl dX23_unlike_4 ?_
  refine nd_iconst hC (v := nI 0) (by rfl) dX23_unlike_7 ?_
  refine nd_aload_n hC dX23_unlike_8 rfl rfl ?_
  refine nd_get (ci := nX28) hC in_X28 rfl hb 0 (by decide) q1074 (fun _ z => z) rfl dX23_unlike_9 ?_
  refine nd_callS (mm2 := mJ16_sort) (As := [_, _, _]) (mc2 := mc) (ms2 := ms) (d2 := d - 1) hC rfl lkX23_36 lmJ16_sort (Nat.le_of_ble_eq_true rfl) (by omega) rfl (by exact Nat.le_of_ble_eq_true rfl) (by omega) (by omega) dX23_unlike_12 rfl ((E _ (fun f2 h2 hq2 => ?_)))
  obtain ⟨e1, e2, h100⟩ := hQ f2 h2 hq2
  have hb := e1.trans hb
  have hO := e2.trans hO
  refine nd_iconst hC (v := nI 0) (by rfl) dX23_unlike_15 ?_
  refine nd_istore_n hC dX23_unlike_16 (Nat.le_of_ble_eq_true rfl) ?_
  refine nd_iconst hC (v := nI 0) (by rfl) dX23_unlike_17 ?_
  refine nd_istore_n hC dX23_unlike_18 (Nat.le_of_ble_eq_true rfl) ?_
  have L1 : ∀ k, k ≤ m → nd_W g mX23_unlike d mc ms K X 19 [some (.ref b), some (.int (nI (su_cnt f2 k))), some (.int (nI k))] [] h2 (0 + mc) (0 + ms) := by
    refine nd_for _ _ ?_ ?_
    · refine nd_iload_n hC dX23_unlike_19 rfl ?_
      refine nd_aload_n hC dX23_unlike_20 rfl rfl ?_
      refine nd_get (ci := nX28) hC in_X28 rfl hb 0 (by decide) q1074 (fun _ z => z) rfl dX23_unlike_21 ?_
      first | with_reducible refine nd_icmp_geN hC (tgt := 69) (by omega) (by omega) dX23_unlike_24 (by decide) (fun hq => ?_) (fun hq => ?_) | refine nd_icmp_ge hC (tgt := 69) dX23_unlike_24 (by decide) (fun hq => ?_) (fun hq => ?_)
      · refine nd_iload_n hC dX23_unlike_69 rfl ?_
        refine nd_ireturn hC rfl (by first | rfl | exact nd_b_nar _) (by omega) (by omega) dX23_unlike_70 ((hk f2 h2 hq2))
      · omega
    · intro k hk1 ih
      have hle := su_cnt_le f2 k
      have J : ∀ e, su_cnt f2 (k + 1) = su_cnt f2 k + e → e ≤ 1 → nd_W g mX23_unlike d mc ms K X 61 [some (.ref b), some (.int (nI (su_cnt f2 k))), some (.int (nI k))] [.int (nI e), .int (nI (su_cnt f2 k))] h2 (0 + mc) (0 + ms) := by
        intro e he h1
        rw [he] at ih
        first | with_reducible refine nd_iaddN hC dX23_unlike_61 ?_ | refine nd_iadd hC dX23_unlike_61 ?_
        refine nd_istore_n hC dX23_unlike_62 (Nat.le_of_ble_eq_true rfl) ?_
        first | with_reducible refine nd_iincN hC dX23_unlike_63 rfl (Nat.le_of_ble_eq_true rfl) ?_ | refine nd_iinc hC dX23_unlike_63 rfl rfl (Nat.le_of_ble_eq_true rfl) ?_
        refine nd_goto hC (tgt := 19) dX23_unlike_66 (by decide) ?_
        exact ih
      refine nd_iload_n hC dX23_unlike_19 rfl ?_
      refine nd_aload_n hC dX23_unlike_20 rfl rfl ?_
      refine nd_get (ci := nX28) hC in_X28 rfl hb 0 (by decide) q1074 (fun _ z => z) rfl dX23_unlike_21 ?_
      first | with_reducible refine nd_icmp_geN hC (tgt := 69) (by omega) (by omega) dX23_unlike_24 (by decide) (fun hq => ?_) (fun hq => ?_) | refine nd_icmp_ge hC (tgt := 69) dX23_unlike_24 (by decide) (fun hq => ?_) (fun hq => ?_)
      · omega
      refine nd_iload_n hC dX23_unlike_27 rfl ?_
      refine nd_iload_n hC dX23_unlike_28 rfl ?_
      first | with_reducible refine nd_if_eqB hC (tgt := 56) dX23_unlike_29 (by decide) (fun hq3 => ?_) (fun hq3 => ?_) | with_reducible refine nd_if_eqN hC (tgt := 56) (by omega) dX23_unlike_29 (by decide) (fun hq3 => ?_) (fun hq3 => ?_) | refine nd_if_eq hC (tgt := 56) dX23_unlike_29 (by decide) (fun hq3 => ?_) (fun hq3 => ?_)
      · refine nd_iconst hC (v := nI 1) (by rfl) dX23_unlike_56 ?_
        refine nd_goto hC (tgt := 61) dX23_unlike_57 (by decide) ?_
        exact J 1 (by show su_cnt f2 k + _ = _; rw [if_pos (Or.inl hq3)]) (Nat.le_refl _)
      · refine nd_aload_n hC dX23_unlike_32 rfl rfl ?_
        refine nd_get (ci := nX28) hC in_X28 rfl hb 1 (by decide) q1075 (fun _ z => z) rfl dX23_unlike_33 ?_
        refine nd_getN (ci := nX1) hC in_X1 rfl hO 12 (by decide) q398 (fun _ z => z) rfl dX23_unlike_36 ?_
        refine nd_iload_n hC dX23_unlike_39 rfl ?_
        refine nd_laloadN hC h100 (by omega) (by omega) dX23_unlike_40 ?_
        refine nd_aload_n hC dX23_unlike_41 rfl rfl ?_
        refine nd_get (ci := nX28) hC in_X28 rfl hb 1 (by decide) q1075 (fun _ z => z) rfl dX23_unlike_42 ?_
        refine nd_getN (ci := nX1) hC in_X1 rfl hO 12 (by decide) q398 (fun _ z => z) rfl dX23_unlike_45 ?_
        refine nd_iload_n hC dX23_unlike_48 rfl ?_
        refine nd_iconst hC (v := nI 1) (by rfl) dX23_unlike_49 ?_
        first | with_reducible refine nd_isubN hC (by omega) dX23_unlike_50 ?_ | refine nd_isub hC dX23_unlike_50 ?_
        refine nd_laloadN hC h100 (by omega) (by omega) dX23_unlike_51 ?_
        refine nd_lcmp_eq hC (tgt := 60) dX23_unlike_52 dX23_unlike_53 (by decide) (fun hq4 => ?_) (fun hq4 => ?_)
        · refine nd_iconst hC (v := nI 0) (by rfl) dX23_unlike_60 ?_
          exact J 0 (by show su_cnt f2 k + _ = _; rw [if_neg (fun q => q.elim hq3 (fun q => q hq4))]) (by omega)
        · refine nd_iconst hC (v := nI 1) (by rfl) dX23_unlike_56 ?_
          refine nd_goto hC (tgt := 61) dX23_unlike_57 (by decide) ?_
          exact J 1 (by show su_cnt f2 k + _ = _; rw [if_pos (Or.inr hq4)]) (Nat.le_refl _)
  exact L1 0 (Nat.zero_le _)
theorem cu_unlikeX32 (hg : nd_OK g) (hd : 1 ≤ d) {m mc ms : Nat} {x2 x3 x4 : Value} {Q : (Nat → Int64) → nd_H → Prop} (hm : m ≤ 28000) (hb : h[b]? = some (.inr (nX32, [.int (nI m), .ref 0, x2, x3, x4]))) (hO1 : ∃ tp fkd fat x, cx_O h tp fkd fat x) (E : ∀ K, (∀ f2 h2, Q f2 h2 → K (.inl none) h2) → nd_M g mJ16_sort (d - 1) mc ms [.ref 100, .int (nI 0), .int (nI m)] h K) (hQ : ∀ f2 h2, Q f2 h2 → h2[b]? = h[b]? ∧ h2[0]? = h[0]? ∧ h2[100]? = some (.inl (1, 28000, .inr (.inl f2)))) (hk : ∀ f2 h2, Q f2 h2 → K (.inl (some (.int (nI (su_cnt f2 m))))) h2) : nd_M g mX23_unlike d mc ms [.ref b] h K := by
  obtain ⟨tp, fkd, fat, x, hO⟩ := hO1
  unfold cx_O at hO
  refine nd_enter hg (by decide) rfl (Nat.le_of_ble_eq_true rfl) (fun X hC => ?_)
  refine nd_aload_n hC dX23_unlike_0 rfl rfl ?_
  refine nd_get (ci := nX32) hC in_X32 rfl hb 1 (by decide) q1075 (fun _ z => z) rfl dX23_unlike_1 ?_
  refine nd_getN (ci := nX1) hC in_X1 rfl hO 12 (by decide) q398 (fun _ z => z) rfl dX23_unlike_4 ?_
  refine nd_iconst hC (v := nI 0) (by rfl) dX23_unlike_7 ?_
  refine nd_aload_n hC dX23_unlike_8 rfl rfl ?_
  refine nd_get (ci := nX32) hC in_X32 rfl hb 0 (by decide) q1074 (fun _ z => z) rfl dX23_unlike_9 ?_
  refine nd_callS (mm2 := mJ16_sort) (As := [_, _, _]) (mc2 := mc) (ms2 := ms) (d2 := d - 1) hC rfl lkX23_36 lmJ16_sort (Nat.le_of_ble_eq_true rfl) (by omega) rfl (by exact Nat.le_of_ble_eq_true rfl) (by omega) (by omega) dX23_unlike_12 rfl ((E _ (fun f2 h2 hq2 => ?_)))
  obtain ⟨e1, e2, h100⟩ := hQ f2 h2 hq2
  have hb := e1.trans hb
  have hO := e2.trans hO
  refine nd_iconst hC (v := nI 0) (by rfl) dX23_unlike_15 ?_
  refine nd_istore_n hC dX23_unlike_16 (Nat.le_of_ble_eq_true rfl) ?_
  refine nd_iconst hC (v := nI 0) (by rfl) dX23_unlike_17 ?_
  refine nd_istore_n hC dX23_unlike_18 (Nat.le_of_ble_eq_true rfl) ?_
  have L1 : ∀ k, k ≤ m → nd_W g mX23_unlike d mc ms K X 19 [some (.ref b), some (.int (nI (su_cnt f2 k))), some (.int (nI k))] [] h2 (0 + mc) (0 + ms) := by
    refine nd_for _ _ ?_ ?_
    · refine nd_iload_n hC dX23_unlike_19 rfl ?_
      refine nd_aload_n hC dX23_unlike_20 rfl rfl ?_
      refine nd_get (ci := nX32) hC in_X32 rfl hb 0 (by decide) q1074 (fun _ z => z) rfl dX23_unlike_21 ?_
      first | with_reducible refine nd_icmp_geN hC (tgt := 69) (by omega) (by omega) dX23_unlike_24 (by decide) (fun hq => ?_) (fun hq => ?_) | refine nd_icmp_ge hC (tgt := 69) dX23_unlike_24 (by decide) (fun hq => ?_) (fun hq => ?_)
      · refine nd_iload_n hC dX23_unlike_69 rfl ?_
        refine nd_ireturn hC rfl (by first | rfl | exact nd_b_nar _) (by omega) (by omega) dX23_unlike_70 ((hk f2 h2 hq2))
      · omega
    · intro k hk1 ih
      have hle := su_cnt_le f2 k
      have J : ∀ e, su_cnt f2 (k + 1) = su_cnt f2 k + e → e ≤ 1 → nd_W g mX23_unlike d mc ms K X 61 [some (.ref b), some (.int (nI (su_cnt f2 k))), some (.int (nI k))] [.int (nI e), .int (nI (su_cnt f2 k))] h2 (0 + mc) (0 + ms) := by
        intro e he h1
        rw [he] at ih
        first | with_reducible refine nd_iaddN hC dX23_unlike_61 ?_ | refine nd_iadd hC dX23_unlike_61 ?_
        refine nd_istore_n hC dX23_unlike_62 (Nat.le_of_ble_eq_true rfl) ?_
        first | with_reducible refine nd_iincN hC dX23_unlike_63 rfl (Nat.le_of_ble_eq_true rfl) ?_ | refine nd_iinc hC dX23_unlike_63 rfl rfl (Nat.le_of_ble_eq_true rfl) ?_
        refine nd_goto hC (tgt := 19) dX23_unlike_66 (by decide) ?_
        exact ih
      refine nd_iload_n hC dX23_unlike_19 rfl ?_
      refine nd_aload_n hC dX23_unlike_20 rfl rfl ?_
      refine nd_get (ci := nX32) hC in_X32 rfl hb 0 (by decide) q1074 (fun _ z => z) rfl dX23_unlike_21 ?_
      first | with_reducible refine nd_icmp_geN hC (tgt := 69) (by omega) (by omega) dX23_unlike_24 (by decide) (fun hq => ?_) (fun hq => ?_) | refine nd_icmp_ge hC (tgt := 69) dX23_unlike_24 (by decide) (fun hq => ?_) (fun hq => ?_)
      · omega
      refine nd_iload_n hC dX23_unlike_27 rfl ?_
      refine nd_iload_n hC dX23_unlike_28 rfl ?_
      first | with_reducible refine nd_if_eqB hC (tgt := 56) dX23_unlike_29 (by decide) (fun hq3 => ?_) (fun hq3 => ?_) | with_reducible refine nd_if_eqN hC (tgt := 56) (by omega) dX23_unlike_29 (by decide) (fun hq3 => ?_) (fun hq3 => ?_) | refine nd_if_eq hC (tgt := 56) dX23_unlike_29 (by decide) (fun hq3 => ?_) (fun hq3 => ?_)
      · refine nd_iconst hC (v := nI 1) (by rfl) dX23_unlike_56 ?_
        refine nd_goto hC (tgt := 61) dX23_unlike_57 (by decide) ?_
        exact J 1 (by show su_cnt f2 k + _ = _; rw [if_pos (Or.inl hq3)]) (Nat.le_refl _)
      · refine nd_aload_n hC dX23_unlike_32 rfl rfl ?_
        refine nd_get (ci := nX32) hC in_X32 rfl hb 1 (by decide) q1075 (fun _ z => z) rfl dX23_unlike_33 ?_
        refine nd_getN (ci := nX1) hC in_X1 rfl hO 12 (by decide) q398 (fun _ z => z) rfl dX23_unlike_36 ?_
        refine nd_iload_n hC dX23_unlike_39 rfl ?_
        refine nd_laloadN hC h100 (by omega) (by omega) dX23_unlike_40 ?_
        refine nd_aload_n hC dX23_unlike_41 rfl rfl ?_
        refine nd_get (ci := nX32) hC in_X32 rfl hb 1 (by decide) q1075 (fun _ z => z) rfl dX23_unlike_42 ?_
        refine nd_getN (ci := nX1) hC in_X1 rfl hO 12 (by decide) q398 (fun _ z => z) rfl dX23_unlike_45 ?_
        refine nd_iload_n hC dX23_unlike_48 rfl ?_
        refine nd_iconst hC (v := nI 1) (by rfl) dX23_unlike_49 ?_
        first | with_reducible refine nd_isubN hC (by omega) dX23_unlike_50 ?_ | refine nd_isub hC dX23_unlike_50 ?_
        refine nd_laloadN hC h100 (by omega) (by omega) dX23_unlike_51 ?_
        refine nd_lcmp_eq hC (tgt := 60) dX23_unlike_52 dX23_unlike_53 (by decide) (fun hq4 => ?_) (fun hq4 => ?_)
        · refine nd_iconst hC (v := nI 0) (by rfl) dX23_unlike_60 ?_
          exact J 0 (by show su_cnt f2 k + _ = _; rw [if_neg (fun q => q.elim hq3 (fun q => q hq4))]) (by omega)
        · refine nd_iconst hC (v := nI 1) (by rfl) dX23_unlike_56 ?_
          refine nd_goto hC (tgt := 61) dX23_unlike_57 (by decide) ?_
          exact J 1 (by show su_cnt f2 k + _ = _; rw [if_pos (Or.inr hq4)]) (Nat.le_refl _)
  exact L1 0 (Nat.zero_le _)
theorem cu_unlikeX35 (hg : nd_OK g) (hd : 1 ≤ d) {m mc ms : Nat} {x2 x3 x4 : Value} {Q : (Nat → Int64) → nd_H → Prop} (hm : m ≤ 28000) (hb : h[b]? = some (.inr (nX35, [.int (nI m), .ref 0, x2, x3, x4]))) (hO1 : ∃ tp fkd fat x, cx_O h tp fkd fat x) (E : ∀ K, (∀ f2 h2, Q f2 h2 → K (.inl none) h2) → nd_M g mJ16_sort (d - 1) mc ms [.ref 100, .int (nI 0), .int (nI m)] h K) (hQ : ∀ f2 h2, Q f2 h2 → h2[b]? = h[b]? ∧ h2[0]? = h[0]? ∧ h2[100]? = some (.inl (1, 28000, .inr (.inl f2)))) (hk : ∀ f2 h2, Q f2 h2 → K (.inl (some (.int (nI (su_cnt f2 m))))) h2) : nd_M g mX23_unlike d mc ms [.ref b] h K := by
  obtain ⟨tp, fkd, fat, x, hO⟩ := hO1
  unfold cx_O at hO
  refine nd_enter hg (by decide) rfl (Nat.le_of_ble_eq_true rfl) (fun X hC => ?_)
  refine nd_aload_n hC dX23_unlike_0 rfl rfl ?_
  refine nd_get (ci := nX35) hC in_X35 rfl hb 1 (by decide) q1075 (fun _ z => z) rfl dX23_unlike_1 ?_
  refine nd_getN (ci := nX1) hC in_X1 rfl hO 12 (by decide) q398 (fun _ z => z) rfl dX23_unlike_4 ?_
  refine nd_iconst hC (v := nI 0) (by rfl) dX23_unlike_7 ?_
  refine nd_aload_n hC dX23_unlike_8 rfl rfl ?_
  refine nd_get (ci := nX35) hC in_X35 rfl hb 0 (by decide) q1074 (fun _ z => z) rfl dX23_unlike_9 ?_
  refine nd_callS (mm2 := mJ16_sort) (As := [_, _, _]) (mc2 := mc) (ms2 := ms) (d2 := d - 1) hC rfl lkX23_36 lmJ16_sort (Nat.le_of_ble_eq_true rfl) (by omega) rfl (by exact Nat.le_of_ble_eq_true rfl) (by omega) (by omega) dX23_unlike_12 rfl ((E _ (fun f2 h2 hq2 => ?_)))
  obtain ⟨e1, e2, h100⟩ := hQ f2 h2 hq2
  have hb := e1.trans hb
  have hO := e2.trans hO
  refine nd_iconst hC (v := nI 0) (by rfl) dX23_unlike_15 ?_
  refine nd_istore_n hC dX23_unlike_16 (Nat.le_of_ble_eq_true rfl) ?_
  refine nd_iconst hC (v := nI 0) (by rfl) dX23_unlike_17 ?_
  refine nd_istore_n hC dX23_unlike_18 (Nat.le_of_ble_eq_true rfl) ?_
  have L1 : ∀ k, k ≤ m → nd_W g mX23_unlike d mc ms K X 19 [some (.ref b), some (.int (nI (su_cnt f2 k))), some (.int (nI k))] [] h2 (0 + mc) (0 + ms) := by
    refine nd_for _ _ ?_ ?_
    · refine nd_iload_n hC dX23_unlike_19 rfl ?_
      refine nd_aload_n hC dX23_unlike_20 rfl rfl ?_
      refine nd_get (ci := nX35) hC in_X35 rfl hb 0 (by decide) q1074 (fun _ z => z) rfl dX23_unlike_21 ?_
      first | with_reducible refine nd_icmp_geN hC (tgt := 69) (by omega) (by omega) dX23_unlike_24 (by decide) (fun hq => ?_) (fun hq => ?_) | refine nd_icmp_ge hC (tgt := 69) dX23_unlike_24 (by decide) (fun hq => ?_) (fun hq => ?_)
      · refine nd_iload_n hC dX23_unlike_69 rfl ?_
        refine nd_ireturn hC rfl (by first | rfl | exact nd_b_nar _) (by omega) (by omega) dX23_unlike_70 ((hk f2 h2 hq2))
      · omega
    · intro k hk1 ih
      have hle := su_cnt_le f2 k
      have J : ∀ e, su_cnt f2 (k + 1) = su_cnt f2 k + e → e ≤ 1 → nd_W g mX23_unlike d mc ms K X 61 [some (.ref b), some (.int (nI (su_cnt f2 k))), some (.int (nI k))] [.int (nI e), .int (nI (su_cnt f2 k))] h2 (0 + mc) (0 + ms) := by
        intro e he h1
        rw [he] at ih
        first | with_reducible refine nd_iaddN hC dX23_unlike_61 ?_ | refine nd_iadd hC dX23_unlike_61 ?_
        refine nd_istore_n hC dX23_unlike_62 (Nat.le_of_ble_eq_true rfl) ?_
        first | with_reducible refine nd_iincN hC dX23_unlike_63 rfl (Nat.le_of_ble_eq_true rfl) ?_ | refine nd_iinc hC dX23_unlike_63 rfl rfl (Nat.le_of_ble_eq_true rfl) ?_
        refine nd_goto hC (tgt := 19) dX23_unlike_66 (by decide) ?_
        exact ih
      refine nd_iload_n hC dX23_unlike_19 rfl ?_
      refine nd_aload_n hC dX23_unlike_20 rfl rfl ?_
      refine nd_get (ci := nX35) hC in_X35 rfl hb 0 (by decide) q1074 (fun _ z => z) rfl dX23_unlike_21 ?_
      first | with_reducible refine nd_icmp_geN hC (tgt := 69) (by omega) (by omega) dX23_unlike_24 (by decide) (fun hq => ?_) (fun hq => ?_) | refine nd_icmp_ge hC (tgt := 69) dX23_unlike_24 (by decide) (fun hq => ?_) (fun hq => ?_)
      · omega
      refine nd_iload_n hC dX23_unlike_27 rfl ?_
      refine nd_iload_n hC dX23_unlike_28 rfl ?_
      first | with_reducible refine nd_if_eqB hC (tgt := 56) dX23_unlike_29 (by decide) (fun hq3 => ?_) (fun hq3 => ?_) | with_reducible refine nd_if_eqN hC (tgt := 56) (by omega) dX23_unlike_29 (by decide) (fun hq3 => ?_) (fun hq3 => ?_) | refine nd_if_eq hC (tgt := 56) dX23_unlike_29 (by decide) (fun hq3 => ?_) (fun hq3 => ?_)
      · refine nd_iconst hC (v := nI 1) (by rfl) dX23_unlike_56 ?_
        refine nd_goto hC (tgt := 61) dX23_unlike_57 (by decide) ?_
        exact J 1 (by show su_cnt f2 k + _ = _; rw [if_pos (Or.inl hq3)]) (Nat.le_refl _)
      · refine nd_aload_n hC dX23_unlike_32 rfl rfl ?_
        refine nd_get (ci := nX35) hC in_X35 rfl hb 1 (by decide) q1075 (fun _ z => z) rfl dX23_unlike_33 ?_
        refine nd_getN (ci := nX1) hC in_X1 rfl hO 12 (by decide) q398 (fun _ z => z) rfl dX23_unlike_36 ?_
        refine nd_iload_n hC dX23_unlike_39 rfl ?_
        refine nd_laloadN hC h100 (by omega) (by omega) dX23_unlike_40 ?_
        refine nd_aload_n hC dX23_unlike_41 rfl rfl ?_
        refine nd_get (ci := nX35) hC in_X35 rfl hb 1 (by decide) q1075 (fun _ z => z) rfl dX23_unlike_42 ?_
        refine nd_getN (ci := nX1) hC in_X1 rfl hO 12 (by decide) q398 (fun _ z => z) rfl dX23_unlike_45 ?_
        refine nd_iload_n hC dX23_unlike_48 rfl ?_
        refine nd_iconst hC (v := nI 1) (by rfl) dX23_unlike_49 ?_
        first | with_reducible refine nd_isubN hC (by omega) dX23_unlike_50 ?_ | refine nd_isub hC dX23_unlike_50 ?_
        refine nd_laloadN hC h100 (by omega) (by omega) dX23_unlike_51 ?_
        refine nd_lcmp_eq hC (tgt := 60) dX23_unlike_52 dX23_unlike_53 (by decide) (fun hq4 => ?_) (fun hq4 => ?_)
        · refine nd_iconst hC (v := nI 0) (by rfl) dX23_unlike_60 ?_
          exact J 0 (by show su_cnt f2 k + _ = _; rw [if_neg (fun q => q.elim hq3 (fun q => q hq4))]) (by omega)
        · refine nd_iconst hC (v := nI 1) (by rfl) dX23_unlike_56 ?_
          refine nd_goto hC (tgt := 61) dX23_unlike_57 (by decide) ?_
          exact J 1 (by show su_cnt f2 k + _ = _; rw [if_pos (Or.inr hq4)]) (Nat.le_refl _)
  exact L1 0 (Nat.zero_le _)
theorem cu_unlikeX37 (hg : nd_OK g) (hd : 1 ≤ d) {m mc ms : Nat} {x2 x3 x4 x5 : Value} {Q : (Nat → Int64) → nd_H → Prop} (hm : m ≤ 28000) (hb : h[b]? = some (.inr (nX37, [.int (nI m), .ref 0, x2, x3, x4, x5]))) (hO1 : ∃ tp fkd fat x, cx_O h tp fkd fat x) (E : ∀ K, (∀ f2 h2, Q f2 h2 → K (.inl none) h2) → nd_M g mJ16_sort (d - 1) mc ms [.ref 100, .int (nI 0), .int (nI m)] h K) (hQ : ∀ f2 h2, Q f2 h2 → h2[b]? = h[b]? ∧ h2[0]? = h[0]? ∧ h2[100]? = some (.inl (1, 28000, .inr (.inl f2)))) (hk : ∀ f2 h2, Q f2 h2 → K (.inl (some (.int (nI (su_cnt f2 m))))) h2) : nd_M g mX23_unlike d mc ms [.ref b] h K := by
  obtain ⟨tp, fkd, fat, x, hO⟩ := hO1
  unfold cx_O at hO
  refine nd_enter hg (by decide) rfl (Nat.le_of_ble_eq_true rfl) (fun X hC => ?_)
  refine nd_aload_n hC dX23_unlike_0 rfl rfl ?_
  refine nd_get (ci := nX37) hC in_X37 rfl hb 1 (by decide) q1075 (fun _ z => z) rfl dX23_unlike_1 ?_
  refine nd_getN (ci := nX1) hC in_X1 rfl hO 12 (by decide) q398 (fun _ z => z) rfl dX23_unlike_4 ?_
  refine nd_iconst hC (v := nI 0) (by rfl) dX23_unlike_7 ?_
  refine nd_aload_n hC dX23_unlike_8 rfl rfl ?_
  refine nd_get (ci := nX37) hC in_X37 rfl hb 0 (by decide) q1074 (fun _ z => z) rfl dX23_unlike_9 ?_
  refine nd_callS (mm2 := mJ16_sort) (As := [_, _, _]) (mc2 := mc) (ms2 := ms) (d2 := d - 1) hC rfl lkX23_36 lmJ16_sort (Nat.le_of_ble_eq_true rfl) (by omega) rfl (by exact Nat.le_of_ble_eq_true rfl) (by omega) (by omega) dX23_unlike_12 rfl ((E _ (fun f2 h2 hq2 => ?_)))
  obtain ⟨e1, e2, h100⟩ := hQ f2 h2 hq2
  have hb := e1.trans hb
  have hO := e2.trans hO
  refine nd_iconst hC (v := nI 0) (by rfl) dX23_unlike_15 ?_
  refine nd_istore_n hC dX23_unlike_16 (Nat.le_of_ble_eq_true rfl) ?_
  refine nd_iconst hC (v := nI 0) (by rfl) dX23_unlike_17 ?_
  refine nd_istore_n hC dX23_unlike_18 (Nat.le_of_ble_eq_true rfl) ?_
  have L1 : ∀ k, k ≤ m → nd_W g mX23_unlike d mc ms K X 19 [some (.ref b), some (.int (nI (su_cnt f2 k))), some (.int (nI k))] [] h2 (0 + mc) (0 + ms) := by
    refine nd_for _ _ ?_ ?_
    · refine nd_iload_n hC dX23_unlike_19 rfl ?_
      refine nd_aload_n hC dX23_unlike_20 rfl rfl ?_
      refine nd_get (ci := nX37) hC in_X37 rfl hb 0 (by decide) q1074 (fun _ z => z) rfl dX23_unlike_21 ?_
      first | with_reducible refine nd_icmp_geN hC (tgt := 69) (by omega) (by omega) dX23_unlike_24 (by decide) (fun hq => ?_) (fun hq => ?_) | refine nd_icmp_ge hC (tgt := 69) dX23_unlike_24 (by decide) (fun hq => ?_) (fun hq => ?_)
      · refine nd_iload_n hC dX23_unlike_69 rfl ?_
        refine nd_ireturn hC rfl (by first | rfl | exact nd_b_nar _) (by omega) (by omega) dX23_unlike_70 ((hk f2 h2 hq2))
      · omega
    · intro k hk1 ih
      have hle := su_cnt_le f2 k
      have J : ∀ e, su_cnt f2 (k + 1) = su_cnt f2 k + e → e ≤ 1 → nd_W g mX23_unlike d mc ms K X 61 [some (.ref b), some (.int (nI (su_cnt f2 k))), some (.int (nI k))] [.int (nI e), .int (nI (su_cnt f2 k))] h2 (0 + mc) (0 + ms) := by
        intro e he h1
        rw [he] at ih
        first | with_reducible refine nd_iaddN hC dX23_unlike_61 ?_ | refine nd_iadd hC dX23_unlike_61 ?_
        refine nd_istore_n hC dX23_unlike_62 (Nat.le_of_ble_eq_true rfl) ?_
        first | with_reducible refine nd_iincN hC dX23_unlike_63 rfl (Nat.le_of_ble_eq_true rfl) ?_ | refine nd_iinc hC dX23_unlike_63 rfl rfl (Nat.le_of_ble_eq_true rfl) ?_
        refine nd_goto hC (tgt := 19) dX23_unlike_66 (by decide) ?_
        exact ih
      refine nd_iload_n hC dX23_unlike_19 rfl ?_
      refine nd_aload_n hC dX23_unlike_20 rfl rfl ?_
      refine nd_get (ci := nX37) hC in_X37 rfl hb 0 (by decide) q1074 (fun _ z => z) rfl dX23_unlike_21 ?_
      first | with_reducible refine nd_icmp_geN hC (tgt := 69) (by omega) (by omega) dX23_unlike_24 (by decide) (fun hq => ?_) (fun hq => ?_) | refine nd_icmp_ge hC (tgt := 69) dX23_unlike_24 (by decide) (fun hq => ?_) (fun hq => ?_)
      · omega
      refine nd_iload_n hC dX23_unlike_27 rfl ?_
      refine nd_iload_n hC dX23_unlike_28 rfl ?_
      first | with_reducible refine nd_if_eqB hC (tgt := 56) dX23_unlike_29 (by decide) (fun hq3 => ?_) (fun hq3 => ?_) | with_reducible refine nd_if_eqN hC (tgt := 56) (by omega) dX23_unlike_29 (by decide) (fun hq3 => ?_) (fun hq3 => ?_) | refine nd_if_eq hC (tgt := 56) dX23_unlike_29 (by decide) (fun hq3 => ?_) (fun hq3 => ?_)
      · refine nd_iconst hC (v := nI 1) (by rfl) dX23_unlike_56 ?_
        refine nd_goto hC (tgt := 61) dX23_unlike_57 (by decide) ?_
        exact J 1 (by show su_cnt f2 k + _ = _; rw [if_pos (Or.inl hq3)]) (Nat.le_refl _)
      · refine nd_aload_n hC dX23_unlike_32 rfl rfl ?_
        refine nd_get (ci := nX37) hC in_X37 rfl hb 1 (by decide) q1075 (fun _ z => z) rfl dX23_unlike_33 ?_
        refine nd_getN (ci := nX1) hC in_X1 rfl hO 12 (by decide) q398 (fun _ z => z) rfl dX23_unlike_36 ?_
        refine nd_iload_n hC dX23_unlike_39 rfl ?_
        refine nd_laloadN hC h100 (by omega) (by omega) dX23_unlike_40 ?_
        refine nd_aload_n hC dX23_unlike_41 rfl rfl ?_
        refine nd_get (ci := nX37) hC in_X37 rfl hb 1 (by decide) q1075 (fun _ z => z) rfl dX23_unlike_42 ?_
        refine nd_getN (ci := nX1) hC in_X1 rfl hO 12 (by decide) q398 (fun _ z => z) rfl dX23_unlike_45 ?_
        refine nd_iload_n hC dX23_unlike_48 rfl ?_
        refine nd_iconst hC (v := nI 1) (by rfl) dX23_unlike_49 ?_
        first | with_reducible refine nd_isubN hC (by omega) dX23_unlike_50 ?_ | refine nd_isub hC dX23_unlike_50 ?_
        refine nd_laloadN hC h100 (by omega) (by omega) dX23_unlike_51 ?_
        refine nd_lcmp_eq hC (tgt := 60) dX23_unlike_52 dX23_unlike_53 (by decide) (fun hq4 => ?_) (fun hq4 => ?_)
        · refine nd_iconst hC (v := nI 0) (by rfl) dX23_unlike_60 ?_
          exact J 0 (by show su_cnt f2 k + _ = _; rw [if_neg (fun q => q.elim hq3 (fun q => q hq4))]) (by omega)
        · refine nd_iconst hC (v := nI 1) (by rfl) dX23_unlike_56 ?_
          refine nd_goto hC (tgt := 61) dX23_unlike_57 (by decide) ?_
          exact J 1 (by show su_cnt f2 k + _ = _; rw [if_pos (Or.inr hq4)]) (Nat.le_refl _)
  exact L1 0 (Nat.zero_le _)
end UN96

