set_option maxRecDepth 100000
section SO98
variable {g : nd_G} {d : Nat} {K : nd_K} {h : nd_H} {A n : Nat} {f : Nat → Int64}
theorem so_range (hg : nd_OK g) {lo hi len : Nat} (h1 : lo ≤ hi) (h2 : hi ≤ len) (h3 : len < 2147483648) (hk : K (.inl none) h) : nd_M g mJ16_rangeCheck d 0 0 [.int (nI len), .int (nI lo), .int (nI hi)] h K := by
  refine nd_enter hg (by decide) rfl (Nat.le_of_ble_eq_true rfl) (fun X hC => ?_)
  refine nd_iload_n hC dJ16_rangeCheck_0 rfl ?_
  refine nd_iload_n hC dJ16_rangeCheck_1 rfl ?_
  first | with_reducible refine nd_icmp_leN hC (tgt := 46) (by omega) (by omega) dJ16_rangeCheck_2 (by decide) (fun hq => ?_) (fun hq => ?_) | refine nd_icmp_le hC (tgt := 46) dJ16_rangeCheck_2 (by decide) (fun hq => ?_) (fun hq => ?_)
  · refine nd_iload_n hC dJ16_rangeCheck_46 rfl ?_
    refine nd_if_ge hC (tgt := 59) dJ16_rangeCheck_47 (by decide) (fun hq2 => ?_) (fun hq2 => ?_)
    · refine nd_iload_n hC dJ16_rangeCheck_59 rfl ?_
      refine nd_iload_n hC dJ16_rangeCheck_60 rfl ?_
      first | with_reducible refine nd_icmp_leN hC (tgt := 73) (by omega) (by omega) dJ16_rangeCheck_61 (by decide) (fun hq3 => ?_) (fun hq3 => ?_) | refine nd_icmp_le hC (tgt := 73) dJ16_rangeCheck_61 (by decide) (fun hq3 => ?_) (fun hq3 => ?_)
      · refine nd_return hC rfl (by omega) (by omega) dJ16_rangeCheck_73 (hk)
      · omega
    · exfalso
      apply hq2
      rw [Int32.le_iff_toInt_le, nI_toInt (by omega)]
      have h0 : (0 : Int32).toInt = 0 := rfl
      omega
  · omega
theorem so_sort0 (hg : nd_OK g) (hd : 1 ≤ d) {lo hi mc ms : Nat} (h1 : lo ≤ hi) (h2 : hi < 2147483648) (hk : ∀ K2, (∀ h2, K (.inl none) h2 → K2 (.inl none) h2) → nd_M g mJ25_sort_2 (d - 1) mc ms [.null, .ref A, .int (nI 0), .int (nI lo), .int (nI hi)] h K2) : nd_M g mJ25_sort d mc ms [.ref A, .int (nI 0), .int (nI lo), .int (nI hi)] h K := by
  refine nd_enter hg (by decide) rfl (Nat.le_of_ble_eq_true rfl) (fun X hC => ?_)
  refine nd_iload_n hC dJ25_sort_0 rfl ?_
  refine nd_iload_n hC dJ25_sort_1 rfl ?_
  first | with_reducible refine nd_isubN hC (by omega) dJ25_sort_2 ?_ | refine nd_isub hC dJ25_sort_2 ?_
  refine nd_istore hC dJ25_sort_3 (Nat.le_of_ble_eq_true rfl) ?_
  refine nd_iload_n hC dJ25_sort_5 rfl ?_
  refine nd_iconst hC (v := nI 1) (by rfl) dJ25_sort_6 ?_
  first | with_reducible refine nd_icmp_leN hC (tgt := 68) (by omega) (by omega) dJ25_sort_7 (by decide) (fun hq => ?_) (fun hq => ?_) | refine nd_icmp_le hC (tgt := 68) dJ25_sort_7 (by decide) (fun hq => ?_) (fun hq => ?_)
  · refine nd_null hC dJ25_sort_68 ?_
    refine nd_aload_n hC dJ25_sort_69 rfl rfl ?_
    refine nd_iconst hC (v := nI 0) (by rfl) dJ25_sort_70 ?_
    refine nd_iload_n hC dJ25_sort_71 rfl ?_
    refine nd_iload_n hC dJ25_sort_72 rfl ?_
    refine nd_callS (mm2 := mJ25_sort_2) (As := [_, _, _, _, _]) (mc2 := mc) (ms2 := ms) (d2 := d - 1) hC rfl lkJ25_99 lmJ25_sort_2 (Nat.le_of_ble_eq_true rfl) (by omega) rfl (by exact Nat.le_of_ble_eq_true rfl) (by omega) (by omega) dJ25_sort_73 rfl ((hk _ (fun h2 k2 => ?_)))
    refine nd_return hC rfl (by omega) (by omega) dJ25_sort_76 (k2)
  · omega
theorem so_sortA (hg : nd_OK g) (hd : 2 ≤ d) {lo hi mc ms : Nat} (h1 : lo ≤ hi) (h2 : hi ≤ n) (h3 : n < 2147483648) (hA : h[A]? = some (.inl (1, n, .inr (.inl f)))) (hk : ∀ K2, (∀ h2, K (.inl none) h2 → K2 (.inl none) h2) → nd_M g mJ25_sort_2 (d - 2) mc ms [.null, .ref A, .int (nI 0), .int (nI lo), .int (nI hi)] h K2) : nd_M g mJ16_sort d mc ms [.ref A, .int (nI lo), .int (nI hi)] h K := by
  refine nd_enter hg (by decide) rfl (Nat.le_of_ble_eq_true rfl) (fun X hC => ?_)
  refine nd_aload_n hC dJ16_sort_0 rfl rfl ?_
  refine nd_alen hC rfl hA dJ16_sort_1 ?_
  refine nd_iload_n hC dJ16_sort_2 rfl ?_
  refine nd_iload_n hC dJ16_sort_3 rfl ?_
  refine nd_callS (mm2 := mJ16_rangeCheck) (As := [_, _, _]) (mc2 := 0) (ms2 := 0) (d2 := d - 1) hC rfl lkJ16_13 lmJ16_rangeCheck (Nat.le_of_ble_eq_true rfl) (by omega) rfl (by exact Nat.le_of_ble_eq_true rfl) (by omega) (by omega) dJ16_sort_4 rfl ((so_range hg h1 h2 h3 ?_))
  refine nd_aload_n hC dJ16_sort_7 rfl rfl ?_
  refine nd_iconst hC (v := nI 0) (by rfl) dJ16_sort_8 ?_
  refine nd_iload_n hC dJ16_sort_9 rfl ?_
  refine nd_iload_n hC dJ16_sort_10 rfl ?_
  refine nd_callS (mm2 := mJ25_sort) (As := [_, _, _, _]) (mc2 := mc) (ms2 := ms) (d2 := d - 1) hC rfl lkJ16_19 lmJ25_sort (Nat.le_of_ble_eq_true rfl) (by omega) rfl (by exact Nat.le_of_ble_eq_true rfl) (by omega) (by omega) dJ16_sort_11 rfl ((so_sort0 hg (by omega) h1 (by omega) (fun K2 hK2 => (Nat.sub_sub d 1 1) ▸ hk K2 (fun h2 k2 => hK2 h2 ?_))))
  refine nd_return hC rfl (by omega) (by omega) dJ16_sort_14 (k2)
end SO98

