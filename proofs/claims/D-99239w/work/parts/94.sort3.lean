set_option maxRecDepth 100000
theorem so_p.upd {lo hi j : Nat} {f f2 : Nat → Int64} {x : Int64} (a : so_p lo hi f f2) (hj : ¬ (lo ≤ j ∧ j < hi)) : so_p lo hi (vp_updL f j x) (vp_updL f2 j x) := by
  refine ⟨fun i h => ?_, fun i q1 q2 => ?_, fun i q1 q2 => ?_⟩
  · by_cases e : i = j
    · subst e; rw [uL_s, uL_s]
    · rw [uL_n e, uL_n e]; exact a.1 i h
  · obtain ⟨k, r1, r2, r3⟩ := a.2.1 i q1 q2
    refine ⟨k, r1, r2, ?_⟩
    rw [uL_n (by intro z; subst z; exact hj ⟨q1, q2⟩), uL_n (by intro z; subst z; exact hj ⟨r1, r2⟩)]
    exact r3
  · obtain ⟨k, r1, r2, r3⟩ := a.2.2 i q1 q2
    refine ⟨k, r1, r2, ?_⟩
    rw [uL_n (by intro z; subst z; exact hj ⟨r1, r2⟩), uL_n (by intro z; subst z; exact hj ⟨q1, q2⟩)]
    exact r3
theorem hp_root {lo hi : Nat} {f : Nat → Int64} (h : hp_h lo hi lo f) : ∀ i, lo ≤ i → i < hi → (f i).toInt ≤ (f lo).toInt := by
  intro i
  induction i using Nat.strongRecOn with
  | ind i ih =>
    intro h1 h2
    by_cases e : i = lo
    · subst e; exact Int.le_refl _
    · have q := h (lo + (i - lo - 1) / 2) i (by omega) ⟨by omega, by omega⟩ h2
      have q2 := ih (lo + (i - lo - 1) / 2) (by omega) (by omega) (by omega)
      omega
theorem uL_id {f : Nat → Int64} {j : Nat} : vp_updL f j (f j) = f := by
  funext q
  by_cases e : q = j
  · subst e; rw [uL_s]
  · rw [uL_n e]
section SO94
variable {g : nd_G} {d : Nat} {K : nd_K} {h : nd_H} {A n : Nat} {f : Nat → Int64}
theorem so_heap (hg : nd_OK g) (hd : 1 ≤ d) {lo hi : Nat} (hlt : A < h.length) (hn : n ≤ 100000) (h1 : lo < hi) (h2 : hi ≤ n) (hk : ∀ f2, so_p lo hi f f2 → so_s lo hi f2 → K (.inl none) (h.set A (.inl (1, n, .inr (.inl f2))))) : nd_M g mJ25_heapSort d 0 0 [.ref A, .int (nI lo), .int (nI hi)] (h.set A (.inl (1, n, .inr (.inl f)))) K := by
  refine nd_enter hg (by decide) rfl (Nat.le_of_ble_eq_true rfl) (fun X hC => ?_)
  have L2 : ∀ m f2 lv3, lo + m + 1 ≤ hi → so_p lo hi f f2 → hp_h lo (lo + m + 1) lo f2 → so_s (lo + m + 1) hi f2 → (∀ i j, lo ≤ i → i < lo + m + 1 → lo + m + 1 ≤ j → j < hi → (f2 i).toInt ≤ (f2 j).toInt) → nd_W g mJ25_heapSort d 0 0 K X 27 [some (.ref A), some (.int (nI lo)), some (.int (nI (lo + m + 1))), lv3, none] [] (h.set A (.inl (1, n, .inr (.inl f2)))) 0 0 := by
    intro m
    induction m with
    | zero =>
      intro f2 lv3 hm hp hh hs ho
      refine nd_drop 3 ?_
      first | with_reducible refine nd_iincN hC dJ25_heapSort_27 rfl (Nat.le_of_ble_eq_true rfl) ?_ | refine nd_iinc hC dJ25_heapSort_27 rfl rfl (Nat.le_of_ble_eq_true rfl) ?_
      rw [i_dec, i_pred (by omega)]
      refine nd_iload_n hC dJ25_heapSort_30 rfl ?_
      refine nd_iload_n hC dJ25_heapSort_31 rfl ?_
      first | with_reducible refine nd_icmp_leN hC (tgt := 56) (by omega) (by omega) dJ25_heapSort_32 (by decide) (fun hq => ?_) (fun hq => ?_) | refine nd_icmp_le hC (tgt := 56) dJ25_heapSort_32 (by decide) (fun hq => ?_) (fun hq => ?_)
      · have R := hk f2 hp (fun i j a1 a2 a3 => by
          by_cases e1 : i = lo
          · subst e1
            by_cases e2 : j = i
            · subst e2; exact Int.le_refl _
            · exact ho i j (Nat.le_refl _) (by omega) (by omega) a3
          · exact hs i j (by omega) a2 a3)
        refine nd_return hC rfl (by omega) (by omega) dJ25_heapSort_56 (R)
      · omega
    | succ m ih =>
      intro f2 lv3 hm hp hh hs ho
      have hr := hp_root hh
      refine nd_drop 3 ?_
      first | with_reducible refine nd_iincN hC dJ25_heapSort_27 rfl (Nat.le_of_ble_eq_true rfl) ?_ | refine nd_iinc hC dJ25_heapSort_27 rfl rfl (Nat.le_of_ble_eq_true rfl) ?_
      rw [i_dec, i_pred (by omega)]
      refine nd_iload_n hC dJ25_heapSort_30 rfl ?_
      refine nd_iload_n hC dJ25_heapSort_31 rfl ?_
      first | with_reducible refine nd_icmp_leN hC (tgt := 56) (by omega) (by omega) dJ25_heapSort_32 (by decide) (fun hq => ?_) (fun hq => ?_) | refine nd_icmp_le hC (tgt := 56) dJ25_heapSort_32 (by decide) (fun hq => ?_) (fun hq => ?_)
      · omega
      refine nd_aload_n hC dJ25_heapSort_35 rfl rfl ?_
      refine nd_iload_n hC dJ25_heapSort_36 rfl ?_
      refine nd_laloadN hC (List.getElem?_set_self hlt) (by omega) (by omega) dJ25_heapSort_37 ?_
      refine nd_lstore_n hC dJ25_heapSort_38 (Nat.le_of_ble_eq_true rfl) ?_
      refine nd_aload_n hC dJ25_heapSort_39 rfl rfl ?_
      refine nd_iload_n hC dJ25_heapSort_40 rfl ?_
      refine nd_aload_n hC dJ25_heapSort_41 rfl rfl ?_
      refine nd_iload_n hC dJ25_heapSort_42 rfl ?_
      refine nd_laloadN hC (List.getElem?_set_self hlt) (by omega) (by omega) dJ25_heapSort_43 ?_
      refine nd_iload_n hC dJ25_heapSort_44 rfl ?_
      refine nd_iload_n hC dJ25_heapSort_45 rfl ?_
      refine nd_callS (mm2 := mJ25_pushDown) (As := [_, _, _, _, _]) (mc2 := 0) (ms2 := 0) (d2 := d - 1) hC rfl lkJ25_113 lmJ25_pushDown (Nat.le_of_ble_eq_true rfl) (by omega) rfl (by exact Nat.le_of_ble_eq_true rfl) (by omega) (by omega) dJ25_heapSort_46 rfl ((so_push (q := lo) hg hlt hn (Nat.le_refl _) (by omega) (by omega) (fun i c a1 a2 a3 => hh i c (by omega) a2 (by omega)) (fun f3 hp3 hh3 => ?_)))
      refine nd_aload_n hC dJ25_heapSort_49 rfl rfl ?_
      refine nd_iload_n hC dJ25_heapSort_50 rfl ?_
      refine nd_lload_n hC dJ25_heapSort_51 rfl ?_
      refine so_ast hC hlt hn (by omega) dJ25_heapSort_52 ?_
      refine nd_goto hC (tgt := 27) dJ25_heapSort_53 (by decide) ?_
      have hsw : so_p lo (lo + (m + 1) + 1) f2 (vp_updL (vp_updL f2 lo (f2 (lo + (m + 1)))) (lo + (m + 1)) (f2 lo)) := so_p.swap (i := lo) (j := lo + (m + 1)) (by omega) (by omega) (by omega) (by omega) (by rw [uL_n (by omega), uL_s]) (by rw [uL_s]) (fun x z1 z2 => by rw [uL_n z2, uL_n z1])
      have hp4 : so_p lo (lo + (m + 1) + 1) f2 (vp_updL f3 (lo + (m + 1)) (f2 lo)) := hsw.trans ((hp3.upd (by omega)).wide (Nat.le_refl _) (by omega))
      refine ih _ _ (by omega) (hp.trans (hp4.wide (Nat.le_refl _) hm)) ?_ ?_ ?_
      · intro i c a1 a2 a3
        rw [uL_n (by omega), uL_n (by unfold hp_c at a2; omega)]
        exact hh3 i c a1 a2 (by omega)
      · intro i j a1 a2 a3
        by_cases e1 : i = lo + (m + 1)
        · subst e1
          rw [uL_s]
          by_cases e2 : j = lo + (m + 1)
          · subst e2; rw [uL_s]; exact Int.le_refl _
          · rw [hp4.1 j (by omega)]
            exact ho lo j (Nat.le_refl _) (by omega) (by omega) a3
        · rw [hp4.1 i (by omega), hp4.1 j (by omega)]
          exact hs i j (by omega) a2 a3
      · intro i j a1 a2 a3 a4
        obtain ⟨k, k1, k2, k3⟩ := hp4.2.1 i a1 (by omega)
        rw [k3]
        by_cases e2 : j = lo + (m + 1)
        · subst e2; rw [uL_s]; exact hr k k1 k2
        · rw [hp4.1 j (by omega)]
          exact ho k j k1 k2 (by omega) a4
  have L1 : ∀ m f2, lo + m ≤ hi → so_p lo hi f f2 → hp_h lo hi (lo + m) f2 → nd_W g mJ25_heapSort d 0 0 K X 6 [some (.ref A), some (.int (nI lo)), some (.int (nI hi)), some (.int (nI (lo + m))), none] [] (h.set A (.inl (1, n, .inr (.inl f2)))) 0 0 := by
    intro m
    induction m with
    | zero =>
      intro f2 hm hp hh
      refine nd_iload_n hC dJ25_heapSort_6 rfl ?_
      refine nd_iload_n hC dJ25_heapSort_7 rfl ?_
      first | with_reducible refine nd_icmp_leN hC (tgt := 27) (by omega) (by omega) dJ25_heapSort_8 (by decide) (fun hq => ?_) (fun hq => ?_) | refine nd_icmp_le hC (tgt := 27) dJ25_heapSort_8 (by decide) (fun hq => ?_) (fun hq => ?_)
      · have e : hi = lo + (hi - lo - 1) + 1 := by omega
        have M := L2 (hi - lo - 1) f2 (some (.int (nI (lo + 0)))) (by omega) hp (by rw [← e]; exact hh) (by intro i j a1 a2 a3; omega) (by intro i j a1 a2 a3 a4; omega)
        rw [← e] at M
        exact M
      · omega
    | succ m ih =>
      intro f2 hm hp hh
      refine nd_iload_n hC dJ25_heapSort_6 rfl ?_
      refine nd_iload_n hC dJ25_heapSort_7 rfl ?_
      first | with_reducible refine nd_icmp_leN hC (tgt := 27) (by omega) (by omega) dJ25_heapSort_8 (by decide) (fun hq => ?_) (fun hq => ?_) | refine nd_icmp_le hC (tgt := 27) dJ25_heapSort_8 (by decide) (fun hq => ?_) (fun hq => ?_)
      · omega
      refine nd_aload_n hC dJ25_heapSort_11 rfl rfl ?_
      first | with_reducible refine nd_iincN hC dJ25_heapSort_12 rfl (Nat.le_of_ble_eq_true rfl) ?_ | refine nd_iinc hC dJ25_heapSort_12 rfl rfl (Nat.le_of_ble_eq_true rfl) ?_
      rw [i_dec, show lo + (m + 1) = lo + m + 1 from rfl, i_pred (by omega)]
      refine nd_iload_n hC dJ25_heapSort_15 rfl ?_
      refine nd_aload_n hC dJ25_heapSort_16 rfl rfl ?_
      refine nd_iload_n hC dJ25_heapSort_17 rfl ?_
      refine nd_laloadN hC (List.getElem?_set_self hlt) (by omega) (by omega) dJ25_heapSort_18 ?_
      refine nd_iload_n hC dJ25_heapSort_19 rfl ?_
      refine nd_iload_n hC dJ25_heapSort_20 rfl ?_
      refine nd_callS (mm2 := mJ25_pushDown) (As := [_, _, _, _, _]) (mc2 := 0) (ms2 := 0) (d2 := d - 1) hC rfl lkJ25_113 lmJ25_pushDown (Nat.le_of_ble_eq_true rfl) (by omega) rfl (by exact Nat.le_of_ble_eq_true rfl) (by omega) (by omega) dJ25_heapSort_21 rfl ((so_push (q := lo + m) hg hlt hn (by omega) (by omega) (by omega) hh (fun f3 hp3 hh3 => ?_)))
      rw [uL_id] at hp3
      refine nd_goto hC (tgt := 6) dJ25_heapSort_24 (by decide) ?_
      exact ih f3 (by omega) (hp.trans hp3) hh3
  refine nd_iload_n hC dJ25_heapSort_0 rfl ?_
  refine nd_iload_n hC dJ25_heapSort_1 rfl ?_
  first | with_reducible refine nd_iaddN hC dJ25_heapSort_2 ?_ | refine nd_iadd hC dJ25_heapSort_2 ?_
  refine nd_iconst hC (v := nI 1) (by rfl) dJ25_heapSort_3 ?_
  refine nd_iushr hC dJ25_heapSort_4 ?_
  rw [i_half (by omega), show (lo + hi) / 2 = lo + ((lo + hi) / 2 - lo) by omega]
  refine nd_istore_n hC dJ25_heapSort_5 (Nat.le_of_ble_eq_true rfl) ?_
  refine L1 _ f (by omega) so_p.rfl (fun i c a1 a2 a3 => ?_)
  unfold hp_c at a2
  omega
end SO94

