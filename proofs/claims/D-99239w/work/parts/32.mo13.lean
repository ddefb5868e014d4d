set_option maxRecDepth 100000
theorem nd_allF {n j : Nat} {c : Nat → Bool} (hj : j < n) (h : c j = false) : (List.range n).all c = false := by
  rw [List.all_eq_false]; exact ⟨j, List.mem_range.mpr hj, by simp [h]⟩
theorem nd_allT {n : Nat} {c : Nat → Bool} (h : ∀ j, j < n → c j = true) : (List.range n).all c = true := by
  rw [List.all_eq_true]; exact fun j hj => h j (List.mem_range.mp hj)
section MO13
variable {g : nd_G} {d : Nat} {K : nd_K} {h h0 : nd_H} {A : Nat → Nat → Int32} {F : Nat → Int32} {B : Nat → Nat → Int64} {f : Nat → Int32}
theorem sp_looksSo (hg : nd_OK g) (hd : 2 ≤ d) (hw : mo_W h0 A F B h) {p n t : Nat} {l : List (List Nat)} {v : List Int64} (hp : p ≤ 10) (ht : t < 4) (hv : mo_tr A B t v) (hl : mo_lk (A 19) p l) (hok : lk_ok n l) (hn : n ≤ 6) (hk : K (.inl (some (.int (nd_b (lk_reads (mo_fr (A 0)) (mo_bk (A 0)) l v))))) h) : nd_M g mX7_looksSo d 0 0 [.ref 101, .int (nI p), .int (nI t)] h K := by
  have hwd := lk_width hok
  have h30 := hv.2.1
  refine nd_enter hg (by decide) rfl (Nat.le_of_ble_eq_true rfl) (fun X hC => ?_)
  refine nd_aload_n hC dX7_looksSo_0 rfl rfl ?_
  refine nd_iload_n hC dX7_looksSo_1 rfl ?_
  refine mo_callV (As := [_]) (d2 := d - 1) hC hw rfl lkX7_256 lyX7_256 (Nat.le_of_ble_eq_true rfl) (by omega) rfl (by exact Nat.le_of_ble_eq_true rfl) (Nat.zero_le _) (Nat.zero_le _) dX7_looksSo_2 rfl ((sp_columnsAt hg hw hp ?_))
  rw [hl.1]
  refine nd_aload_n hC dX7_looksSo_5 rfl rfl ?_
  refine mo_get_tMany hC hw rfl dX7_looksSo_6 ?_
  refine nd_iload_n hC dX7_looksSo_9 rfl ?_
  refine nd_ialoadN hC hw.tMany (by omega) (by decide) dX7_looksSo_10 ?_
  rw [hv.1]
  first | with_reducible refine nd_icmp_eqN hC (tgt := 16) (by omega) (by omega) dX7_looksSo_11 (by decide) (fun hc => ?_) (fun hc => ?_) | refine nd_icmp_eq hC (tgt := 16) dX7_looksSo_11 (by decide) (fun hc => ?_) (fun hc => ?_)
  · refine nd_iconst hC (v := nI 0) (by rfl) dX7_looksSo_16 ?_
    refine nd_istore_n hC dX7_looksSo_17 (Nat.le_of_ble_eq_true rfl) ?_
    have L : ∀ k, k ≤ v.length → (∀ j, j < k → (decide (v.getD j 0 = -1) || decide (v.getD j 0 = (lk_mk (mo_fr (A 0)) (mo_bk (A 0)) (lk_top (l.getD j []))).toInt64)) = true) → nd_W g mX7_looksSo d 0 0 K X 18 [some (.ref 101), some (.int (nI p)), some (.int (nI t)), some (.int (nI k))] [] h 0 0 := by
      refine nd_for v.length _ ?_ ?_
      · intro ha
        refine nd_iload_n hC dX7_looksSo_18 rfl ?_
        refine nd_aload_n hC dX7_looksSo_19 rfl rfl ?_
        refine mo_get_tMany hC hw rfl dX7_looksSo_20 ?_
        refine nd_iload_n hC dX7_looksSo_23 rfl ?_
        refine nd_ialoadN hC hw.tMany (by omega) (by decide) dX7_looksSo_24 ?_
        rw [hv.1]
        first | with_reducible refine nd_icmp_geN hC (tgt := 76) (by omega) (by omega) dX7_looksSo_25 (by decide) (fun hc => ?_) (fun hc => ?_) | refine nd_icmp_ge hC (tgt := 76) dX7_looksSo_25 (by decide) (fun hc => ?_) (fun hc => ?_)
        · refine nd_iconst hC (v := nI 1) (by rfl) dX7_looksSo_76 ?_
          have e : lk_reads (mo_fr (A 0)) (mo_bk (A 0)) l v = true := by unfold lk_reads; rw [decide_eq_true (by omega), nd_allT ha]; rfl
          rw [e] at hk
          refine nd_ireturn hC rfl (by first | rfl | exact nd_b_nar _) (by omega) (by omega) dX7_looksSo_77 (hk)
        · omega
      · intro k hk1 ih ha
        have goN : (decide (v.getD k 0 = -1) || decide (v.getD k 0 = (lk_mk (mo_fr (A 0)) (mo_bk (A 0)) (lk_top (l.getD k []))).toInt64)) = true → nd_W g mX7_looksSo d 0 0 K X 70 [some (.ref 101), some (.int (nI p)), some (.int (nI t)), some (.int (nI k))] [] h 0 0 := by
          intro q
          first | with_reducible refine nd_iincN hC dX7_looksSo_70 rfl (Nat.le_of_ble_eq_true rfl) ?_ | refine nd_iinc hC dX7_looksSo_70 rfl rfl (Nat.le_of_ble_eq_true rfl) ?_
          refine nd_goto hC (tgt := 18) dX7_looksSo_73 (by decide) ?_
          refine ih (fun j hj => ?_)
          by_cases e : j = k
          · subst e; exact q
          · exact ha j (by omega)
        refine nd_iload_n hC dX7_looksSo_18 rfl ?_
        refine nd_aload_n hC dX7_looksSo_19 rfl rfl ?_
        refine mo_get_tMany hC hw rfl dX7_looksSo_20 ?_
        refine nd_iload_n hC dX7_looksSo_23 rfl ?_
        refine nd_ialoadN hC hw.tMany (by omega) (by decide) dX7_looksSo_24 ?_
        rw [hv.1]
        first | with_reducible refine nd_icmp_geN hC (tgt := 76) (by omega) (by omega) dX7_looksSo_25 (by decide) (fun hc => ?_) (fun hc => ?_) | refine nd_icmp_ge hC (tgt := 76) dX7_looksSo_25 (by decide) (fun hc => ?_) (fun hc => ?_)
        · omega
        refine nd_aload_n hC dX7_looksSo_28 rfl rfl ?_
        refine mo_get_numbers hC hw rfl dX7_looksSo_29 ?_
        refine nd_bipush hC (v := nI 30) (by rfl) dX7_looksSo_32 ?_
        refine nd_iload_n hC dX7_looksSo_34 rfl ?_
        first | with_reducible refine nd_imulN hC dX7_looksSo_35 ?_ | refine nd_imul hC dX7_looksSo_35 ?_
        refine nd_iload_n hC dX7_looksSo_36 rfl ?_
        first | with_reducible refine nd_iaddN hC dX7_looksSo_37 ?_ | refine nd_iadd hC dX7_looksSo_37 ?_
        refine nd_laloadN hC hw.numbers (by omega) (by decide) dX7_looksSo_38 ?_
        rw [hv.2.2 k hk1]
        refine nd_ldc2 hC q3196 dX7_looksSo_39 ?_
        refine nd_lcmp_eq hC (tgt := 70) dX7_looksSo_42 dX7_looksSo_43 (by decide) (fun hq => ?_) (fun hq => ?_)
        · exact goN (by rw [decide_eq_true hq]; rfl)
        refine nd_aload_n hC dX7_looksSo_46 rfl rfl ?_
        refine mo_get_numbers hC hw rfl dX7_looksSo_47 ?_
        refine nd_bipush hC (v := nI 30) (by rfl) dX7_looksSo_50 ?_
        refine nd_iload_n hC dX7_looksSo_52 rfl ?_
        first | with_reducible refine nd_imulN hC dX7_looksSo_53 ?_ | refine nd_imul hC dX7_looksSo_53 ?_
        refine nd_iload_n hC dX7_looksSo_54 rfl ?_
        first | with_reducible refine nd_iaddN hC dX7_looksSo_55 ?_ | refine nd_iadd hC dX7_looksSo_55 ?_
        refine nd_laloadN hC hw.numbers (by omega) (by decide) dX7_looksSo_56 ?_
        rw [hv.2.2 k hk1]
        refine nd_aload_n hC dX7_looksSo_57 rfl rfl ?_
        refine nd_iload_n hC dX7_looksSo_58 rfl ?_
        refine nd_iload_n hC dX7_looksSo_59 rfl ?_
        refine mo_callV (As := [_, _]) (d2 := d - 1) hC hw rfl lkX7_287 lyX7_287 (Nat.le_of_ble_eq_true rfl) (by omega) rfl (by exact Nat.le_of_ble_eq_true rfl) (Nat.zero_le _) (Nat.zero_le _) dX7_looksSo_60 rfl ((sp_aboveAt hg (by omega) hw hp hl hok hn (by omega) ?_))
        first | with_reducible refine nd_i2lN hC (by omega) dX7_looksSo_63 ?_ | refine nd_i2l hC dX7_looksSo_63 ?_
        refine nd_lcmp_eq hC (tgt := 70) dX7_looksSo_64 dX7_looksSo_65 (by decide) (fun hr => ?_) (fun hr => ?_)
        · exact goN (by rw [decide_eq_true hr, Bool.or_true])
        refine nd_iconst hC (v := nI 0) (by rfl) dX7_looksSo_68 ?_
        have e : lk_reads (mo_fr (A 0)) (mo_bk (A 0)) l v = false := by
          unfold lk_reads
          rw [nd_allF hk1 (by rw [decide_eq_false hq, decide_eq_false hr]; rfl), Bool.and_false]
        rw [e] at hk
        refine nd_ireturn hC rfl (by first | rfl | exact nd_b_nar _) (by omega) (by omega) dX7_looksSo_69 (hk)
    exact L 0 (Nat.zero_le _) (fun j hj => by omega)
  · refine nd_iconst hC (v := nI 0) (by rfl) dX7_looksSo_14 ?_
    have e : lk_reads (mo_fr (A 0)) (mo_bk (A 0)) l v = false := by unfold lk_reads; rw [decide_eq_false (by omega)]; rfl
    rw [e] at hk
    refine nd_ireturn hC rfl (by first | rfl | exact nd_b_nar _) (by omega) (by omega) dX7_looksSo_15 (hk)
theorem sp_isStack (hg : nd_OK g) (hd : 1 ≤ d) (hw : mo_W h0 A F B h) {p n t : Nat} {l : List (List Nat)} {v : List Int64} (hp : p ≤ 10) (ht : t < 4) (hv : mo_tr A B t v) (hvn : v.length = n) (hc0 : A 0 1 = nI n) (hl : mo_lk (A 19) p l) (hok : lk_ok n l) (hn : n ≤ 6) (hk : K (.inl (some (.int (nd_b (lk_stack n l v))))) h) : nd_M g mX7_isStack d 0 0 [.ref 101, .int (nI p), .int (nI t)] h K := by
  have hwd := lk_width hok
  refine nd_enter hg (by decide) rfl (Nat.le_of_ble_eq_true rfl) (fun X hC => ?_)
  refine nd_aload_n hC dX7_isStack_0 rfl rfl ?_
  refine nd_iload_n hC dX7_isStack_1 rfl ?_
  refine mo_callV (As := [_]) (d2 := d - 1) hC hw rfl lkX7_256 lyX7_256 (Nat.le_of_ble_eq_true rfl) (by omega) rfl (by exact Nat.le_of_ble_eq_true rfl) (Nat.zero_le _) (Nat.zero_le _) dX7_isStack_2 rfl ((sp_columnsAt hg hw hp ?_))
  rw [hl.1]
  refine nd_iconst hC (v := nI 1) (by rfl) dX7_isStack_5 ?_
  first | with_reducible refine nd_icmp_leN hC (tgt := 11) (by omega) (by omega) dX7_isStack_6 (by decide) (fun hc => ?_) (fun hc => ?_) | refine nd_icmp_le hC (tgt := 11) dX7_isStack_6 (by decide) (fun hc => ?_) (fun hc => ?_)
  · have hcol : ∀ c, c < n → 0 < l.length ∧ (l.getD 0 []).length = n := by
      intro c hc2
      have := lk_len hok
      match l, hc with
      | [], _ => simp at this; omega
      | [x], _ => simp at this ⊢; exact this
    refine nd_iconst hC (v := nI 0) (by rfl) dX7_isStack_11 ?_
    refine nd_istore_n hC dX7_isStack_12 (Nat.le_of_ble_eq_true rfl) ?_
    have L : ∀ k, k ≤ n → (∀ j, j < k → decide (lN ((l.getD 0 []).getD j 0 / 2) = v.getD j 0) = true) → nd_W g mX7_isStack d 0 0 K X 13 [some (.ref 101), some (.int (nI p)), some (.int (nI t)), some (.int (nI k))] [] h 0 0 := by
      refine nd_for n _ ?_ ?_
      · intro ha
        refine nd_iload_n hC dX7_isStack_13 rfl ?_
        refine nd_aload_n hC dX7_isStack_14 rfl rfl ?_
        refine mo_callV (As := []) (d2 := d - 1) hC hw rfl lkX7_253 lyX7_253 (Nat.le_of_ble_eq_true rfl) (by omega) rfl (by exact Nat.le_of_ble_eq_true rfl) (Nat.zero_le _) (Nat.zero_le _) dX7_isStack_15 rfl ((sp_cells hg hw ?_))
        rw [hc0]
        first | with_reducible refine nd_icmp_geN hC (tgt := 54) (by omega) (by omega) dX7_isStack_18 (by decide) (fun hc => ?_) (fun hc => ?_) | refine nd_icmp_ge hC (tgt := 54) dX7_isStack_18 (by decide) (fun hc => ?_) (fun hc => ?_)
        · refine nd_iconst hC (v := nI 1) (by rfl) dX7_isStack_54 ?_
          have e : lk_stack n l v = true := by unfold lk_stack; rw [decide_eq_true (by omega), nd_allT ha]; rfl
          rw [e] at hk
          refine nd_ireturn hC rfl (by first | rfl | exact nd_b_nar _) (by omega) (by omega) dX7_isStack_55 (hk)
        · omega
      · intro k hk1 ih ha
        have hq := hcol k hk1
        have hlt := lk_at_lt hok hn (lk_col_at hok hq.1 (i := k) (by omega))
        refine nd_iload_n hC dX7_isStack_13 rfl ?_
        refine nd_aload_n hC dX7_isStack_14 rfl rfl ?_
        refine mo_callV (As := []) (d2 := d - 1) hC hw rfl lkX7_253 lyX7_253 (Nat.le_of_ble_eq_true rfl) (by omega) rfl (by exact Nat.le_of_ble_eq_true rfl) (Nat.zero_le _) (Nat.zero_le _) dX7_isStack_15 rfl ((sp_cells hg hw ?_))
        rw [hc0]
        first | with_reducible refine nd_icmp_geN hC (tgt := 54) (by omega) (by omega) dX7_isStack_18 (by decide) (fun hc => ?_) (fun hc => ?_) | refine nd_icmp_ge hC (tgt := 54) dX7_isStack_18 (by decide) (fun hc => ?_) (fun hc => ?_)
        · omega
        refine nd_aload_n hC dX7_isStack_21 rfl rfl ?_
        refine nd_iload_n hC dX7_isStack_22 rfl ?_
        refine nd_iconst hC (v := nI 0) (by rfl) dX7_isStack_23 ?_
        refine nd_iload_n hC dX7_isStack_24 rfl ?_
        refine mo_callV (As := [_, _, _]) (d2 := d - 1) hC hw rfl lkX7_264 lyX7_264 (Nat.le_of_ble_eq_true rfl) (by omega) rfl (by exact Nat.le_of_ble_eq_true rfl) (Nat.zero_le _) (Nat.zero_le _) dX7_isStack_25 rfl ((sp_layerAt hg hw (by omega) ?_))
        rw [(hl.2 0 hq.1).2 k (by omega)]
        refine nd_iconst hC (v := nI 2) (by rfl) dX7_isStack_28 ?_
        first | with_reducible refine nd_idivN hC (by omega) (by omega) (by omega) dX7_isStack_29 ?_ | refine nd_idiv hC (by decide) dX7_isStack_29 ?_
        first | with_reducible refine nd_i2lN hC (by omega) dX7_isStack_30 ?_ | refine nd_i2l hC dX7_isStack_30 ?_
        refine nd_aload_n hC dX7_isStack_31 rfl rfl ?_
        refine mo_get_numbers hC hw rfl dX7_isStack_32 ?_
        refine nd_bipush hC (v := nI 30) (by rfl) dX7_isStack_35 ?_
        refine nd_iload_n hC dX7_isStack_37 rfl ?_
        first | with_reducible refine nd_imulN hC dX7_isStack_38 ?_ | refine nd_imul hC dX7_isStack_38 ?_
        refine nd_iload_n hC dX7_isStack_39 rfl ?_
        first | with_reducible refine nd_iaddN hC dX7_isStack_40 ?_ | refine nd_iadd hC dX7_isStack_40 ?_
        refine nd_laloadN hC hw.numbers (by omega) (by decide) dX7_isStack_41 ?_
        rw [hv.2.2 k (by omega)]
        refine nd_lcmp_eq hC (tgt := 48) dX7_isStack_42 dX7_isStack_43 (by decide) (fun hr => ?_) (fun hr => ?_)
        · first | with_reducible refine nd_iincN hC dX7_isStack_48 rfl (Nat.le_of_ble_eq_true rfl) ?_ | refine nd_iinc hC dX7_isStack_48 rfl rfl (Nat.le_of_ble_eq_true rfl) ?_
          refine nd_goto hC (tgt := 13) dX7_isStack_51 (by decide) ?_
          refine ih (fun j hj => ?_)
          by_cases e : j = k
          · subst e; exact decide_eq_true hr
          · exact ha j (by omega)
        refine nd_iconst hC (v := nI 0) (by rfl) dX7_isStack_46 ?_
        have e : lk_stack n l v = false := by
          unfold lk_stack
          rw [nd_allF hk1 (decide_eq_false hr), Bool.and_false]
        rw [e] at hk
        refine nd_ireturn hC rfl (by first | rfl | exact nd_b_nar _) (by omega) (by omega) dX7_isStack_47 (hk)
    exact L 0 (Nat.zero_le _) (fun j hj => by omega)
  · refine nd_iconst hC (v := nI 0) (by rfl) dX7_isStack_9 ?_
    have e : lk_stack n l v = false := by unfold lk_stack; rw [decide_eq_false (by omega)]; rfl
    rw [e] at hk
    refine nd_ireturn hC rfl (by first | rfl | exact nd_b_nar _) (by omega) (by omega) dX7_isStack_10 (hk)
theorem sp_hasCreases (hg : nd_OK g) (hd : 2 ≤ d) (hw : mo_W h0 A F B h) {p n t : Nat} {l : List (List Nat)} {v : List Int64} (hp : p ≤ 10) (ht : t < 4) (hv : mo_tr A B t v) (hvn : v.length = n - 1) (hl : mo_lk (A 19) p l) (hok : lk_ok n l) (hn : n ≤ 6) (hk : ∀ f2 h2, mo_W h0 (va_up A 20 f2) F B h2 → K (.inl (some (.int (nd_b (lk_made l v))))) h2) : nd_M g mX7_hasCreases d 0 0 [.ref 101, .int (nI p), .int (nI t)] h K := by
  refine nd_enter hg (by decide) rfl (Nat.le_of_ble_eq_true rfl) (fun X hC => ?_)
  refine nd_aload_n hC dX7_hasCreases_0 rfl rfl ?_
  refine nd_iload_n hC dX7_hasCreases_1 rfl ?_
  refine mo_callV (As := [_]) (d2 := d - 1) hC hw rfl lkX7_302 lyX7_302 (Nat.le_of_ble_eq_true rfl) (by omega) rfl (by exact Nat.le_of_ble_eq_true rfl) (Nat.zero_le _) (Nat.zero_le _) dX7_hasCreases_2 rfl ((sp_laysPlaces hg (by omega) hw hp hl hok hn ?_))
  intro f2 h hpl hw
  have hpl2 : mo_pl (va_up A 20 f2 20) l n := by rw [va_up_s]; exact hpl
  have e41 : (va_up A 20 f2) 41 t = nI v.length := by rw [va_up_n A f2 (by decide)]; exact hv.1
  have hk := hk f2 h hw
  refine nd_iconst hC (v := nI 0) (by rfl) dX7_hasCreases_5 ?_
  refine nd_istore_n hC dX7_hasCreases_6 (Nat.le_of_ble_eq_true rfl) ?_
  have L : ∀ k, k ≤ v.length → (∀ j, j < k → decide (v.getD j 0 = lN (lk_cr l j)) = true) → nd_W g mX7_hasCreases d 0 0 K X 7 [some (.ref 101), some (.int (nI p)), some (.int (nI t)), some (.int (nI k))] [] h 0 0 := by
    refine nd_for v.length _ ?_ ?_
    · intro ha
      refine nd_iload_n hC dX7_hasCreases_7 rfl ?_
      refine nd_aload_n hC dX7_hasCreases_8 rfl rfl ?_
      refine mo_get_tMany hC hw rfl dX7_hasCreases_9 ?_
      refine nd_iload_n hC dX7_hasCreases_12 rfl ?_
      refine nd_ialoadN hC hw.tMany (by omega) (by decide) dX7_hasCreases_13 ?_
      rw [e41]
      first | with_reducible refine nd_icmp_geN hC (tgt := 46) (by omega) (by omega) dX7_hasCreases_14 (by decide) (fun hc => ?_) (fun hc => ?_) | refine nd_icmp_ge hC (tgt := 46) dX7_hasCreases_14 (by decide) (fun hc => ?_) (fun hc => ?_)
      · refine nd_iconst hC (v := nI 1) (by rfl) dX7_hasCreases_46 ?_
        have e : lk_made l v = true := by unfold lk_made; rw [nd_allT ha]
        rw [e] at hk
        refine nd_ireturn hC rfl (by first | rfl | exact nd_b_nar _) (by omega) (by omega) dX7_hasCreases_47 (hk)
      · omega
    · intro k hk1 ih ha
      have hcr := lk_cr_le l k
      refine nd_iload_n hC dX7_hasCreases_7 rfl ?_
      refine nd_aload_n hC dX7_hasCreases_8 rfl rfl ?_
      refine mo_get_tMany hC hw rfl dX7_hasCreases_9 ?_
      refine nd_iload_n hC dX7_hasCreases_12 rfl ?_
      refine nd_ialoadN hC hw.tMany (by omega) (by decide) dX7_hasCreases_13 ?_
      rw [e41]
      first | with_reducible refine nd_icmp_geN hC (tgt := 46) (by omega) (by omega) dX7_hasCreases_14 (by decide) (fun hc => ?_) (fun hc => ?_) | refine nd_icmp_ge hC (tgt := 46) dX7_hasCreases_14 (by decide) (fun hc => ?_) (fun hc => ?_)
      · omega
      refine nd_aload_n hC dX7_hasCreases_17 rfl rfl ?_
      refine mo_get_numbers hC hw rfl dX7_hasCreases_18 ?_
      refine nd_bipush hC (v := nI 30) (by rfl) dX7_hasCreases_21 ?_
      refine nd_iload_n hC dX7_hasCreases_23 rfl ?_
      first | with_reducible refine nd_imulN hC dX7_hasCreases_24 ?_ | refine nd_imul hC dX7_hasCreases_24 ?_
      refine nd_iload_n hC dX7_hasCreases_25 rfl ?_
      first | with_reducible refine nd_iaddN hC dX7_hasCreases_26 ?_ | refine nd_iadd hC dX7_hasCreases_26 ?_
      refine nd_laloadN hC hw.numbers (by omega) (by decide) dX7_hasCreases_27 ?_
      rw [hv.2.2 k hk1]
      refine nd_aload_n hC dX7_hasCreases_28 rfl rfl ?_
      refine nd_iload_n hC dX7_hasCreases_29 rfl ?_
      refine mo_callV (As := [_]) (d2 := d - 1) hC hw rfl lkX7_305 lyX7_305 (Nat.le_of_ble_eq_true rfl) (by omega) rfl (by exact Nat.le_of_ble_eq_true rfl) (Nat.zero_le _) (Nat.zero_le _) dX7_hasCreases_30 rfl ((sp_creaseOf hg hw hpl2 hok hn (by omega) ?_))
      first | with_reducible refine nd_i2lN hC (by omega) dX7_hasCreases_33 ?_ | refine nd_i2l hC dX7_hasCreases_33 ?_
      refine nd_lcmp_eq hC (tgt := 40) dX7_hasCreases_34 dX7_hasCreases_35 (by decide) (fun hr => ?_) (fun hr => ?_)
      · first | with_reducible refine nd_iincN hC dX7_hasCreases_40 rfl (Nat.le_of_ble_eq_true rfl) ?_ | refine nd_iinc hC dX7_hasCreases_40 rfl rfl (Nat.le_of_ble_eq_true rfl) ?_
        refine nd_goto hC (tgt := 7) dX7_hasCreases_43 (by decide) ?_
        refine ih (fun j hj => ?_)
        by_cases e : j = k
        · subst e; exact decide_eq_true hr
        · exact ha j (by omega)
      refine nd_iconst hC (v := nI 0) (by rfl) dX7_hasCreases_38 ?_
      have e : lk_made l v = false := by
        unfold lk_made
        rw [nd_allF hk1 (decide_eq_false hr)]
      rw [e] at hk
      refine nd_ireturn hC rfl (by first | rfl | exact nd_b_nar _) (by omega) (by omega) dX7_hasCreases_39 (hk)
  exact L 0 (Nat.zero_le _) (fun j hj => by omega)
theorem sp_leastLiked (hg : nd_OK g) (hd : 6 ≤ d) (hw : mo_W h0 A F B h) {p : Nat} {N : nk_N} {l : List (List Nat)} (hp : p ≤ 10) (hN : mo_nap (A 0) N) (hNok : nk_ok N) (hl : mo_lk (A 19) p l) (hok : lk_ok (nk_n N) l) (hk : ∀ A2 h2, mo_s2 A A2 → mo_W h0 A2 F B h2 → K (.inl (some (.int (nk_least N (mo_fr (A 0)) (mo_bk (A 0)) l p (if (nk_w N).length = 0 then nI 0 else nI 536870912) (nk_w N).length)))) h2) : nd_M g mX7_leastLiked d 0 0 [.ref 101, .int (nI p)] h K := by
  have hw4 := hNok.2.2.1
  have hlen := hN.2.2.1
  refine nd_enter hg (by decide) rfl (Nat.le_of_ble_eq_true rfl) (fun X hC => ?_)
  have J : ∀ s0, s0 = (if (nk_w N).length = 0 then nI 0 else nI 536870912) → nd_W g mX7_leastLiked d 0 0 K X 16 [some (.ref 101), some (.int (nI p)), none, none] [.int s0] h 0 0 := by
    intro s0 hs0
    rw [← hs0] at hk
    refine nd_istore_n hC dX7_leastLiked_16 (Nat.le_of_ble_eq_true rfl) ?_
    refine nd_iconst hC (v := nI 0) (by rfl) dX7_leastLiked_17 ?_
    refine nd_istore_n hC dX7_leastLiked_18 (Nat.le_of_ble_eq_true rfl) ?_
    have L : ∀ i, i ≤ (nk_w N).length → ∀ A2 h2, mo_s2 A A2 → mo_W h0 A2 F B h2 → nd_W g mX7_leastLiked d 0 0 K X 19 [some (.ref 101), some (.int (nI p)), some (.int (nk_least N (mo_fr (A 0)) (mo_bk (A 0)) l p s0 i)), some (.int (nI i))] [] h2 0 0 := by
      refine nd_for (nk_w N).length _ ?_ ?_
      · intro A2 h hs hw
        refine nd_iload_n hC dX7_leastLiked_19 rfl ?_
        refine nd_aload_n hC dX7_leastLiked_20 rfl rfl ?_
        refine mo_get_known hC hw rfl dX7_leastLiked_21 ?_
        refine nd_iconst hC (v := nI 2) (by rfl) dX7_leastLiked_24 ?_
        refine nd_ialoadN hC hw.known (by omega) (by decide) dX7_leastLiked_25 ?_
        rw [hs 0 (by decide) (by decide), hlen]
        first | with_reducible refine nd_icmp_geN hC (tgt := 46) (by omega) (by omega) dX7_leastLiked_26 (by decide) (fun hc => ?_) (fun hc => ?_) | refine nd_icmp_ge hC (tgt := 46) dX7_leastLiked_26 (by decide) (fun hc => ?_) (fun hc => ?_)
        · refine nd_iload_n hC dX7_leastLiked_46 rfl ?_
          refine nd_ireturn hC rfl (by first | rfl | exact nd_b_nar _) (by omega) (by omega) dX7_leastLiked_47 ((hk A2 h hs hw))
        · omega
      · intro i hi ih A2 h hs hw
        have e0 := hs 0 (by decide) (by decide)
        refine nd_iload_n hC dX7_leastLiked_19 rfl ?_
        refine nd_aload_n hC dX7_leastLiked_20 rfl rfl ?_
        refine mo_get_known hC hw rfl dX7_leastLiked_21 ?_
        refine nd_iconst hC (v := nI 2) (by rfl) dX7_leastLiked_24 ?_
        refine nd_ialoadN hC hw.known (by omega) (by decide) dX7_leastLiked_25 ?_
        rw [e0, hlen]
        first | with_reducible refine nd_icmp_geN hC (tgt := 46) (by omega) (by omega) dX7_leastLiked_26 (by decide) (fun hc => ?_) (fun hc => ?_) | refine nd_icmp_ge hC (tgt := 46) dX7_leastLiked_26 (by decide) (fun hc => ?_) (fun hc => ?_)
        · omega
        refine nd_iload_n hC dX7_leastLiked_29 rfl ?_
        refine nd_aload_n hC dX7_leastLiked_30 rfl rfl ?_
        refine nd_iload_n hC dX7_leastLiked_31 rfl ?_
        refine nd_iload_n hC dX7_leastLiked_32 rfl ?_
        refine mo_callV (As := [_, _]) (d2 := d - 1) hC hw rfl lkX7_355 lyX7_355 (Nat.le_of_ble_eq_true rfl) (by omega) rfl (by exact Nat.le_of_ble_eq_true rfl) (Nat.zero_le _) (Nat.zero_le _) dX7_leastLiked_33 rfl ((sp_likesAt hg (by omega) hw hp hi (by rw [e0]; exact hN) hNok (by rw [hs 19 (by decide) (by decide)]; exact hl) hok ?_))
        intro A3 h hs3 hw
        rw [e0]
        refine nd_mmin hC q3079 (by omega) (by omega) (by exact Nat.le_of_ble_eq_true rfl) dX7_leastLiked_36 ?_
        refine nd_istore_n hC dX7_leastLiked_39 (Nat.le_of_ble_eq_true rfl) ?_
        first | with_reducible refine nd_iincN hC dX7_leastLiked_40 rfl (Nat.le_of_ble_eq_true rfl) ?_ | refine nd_iinc hC dX7_leastLiked_40 rfl rfl (Nat.le_of_ble_eq_true rfl) ?_
        refine nd_goto hC (tgt := 19) dX7_leastLiked_43 (by decide) ?_
        exact ih A3 h (hs.trans hs3) hw
    exact L 0 (Nat.zero_le _) A h mo_s2.rfl hw
  refine nd_aload_n hC dX7_leastLiked_0 rfl rfl ?_
  refine mo_get_known hC hw rfl dX7_leastLiked_1 ?_
  refine nd_iconst hC (v := nI 2) (by rfl) dX7_leastLiked_4 ?_
  refine nd_ialoadN hC hw.known (by omega) (by decide) dX7_leastLiked_5 ?_
  rw [hlen]
  first | with_reducible refine nd_if_neB hC (tgt := 13) dX7_leastLiked_6 (by decide) (fun hc => ?_) (fun hc => ?_) | with_reducible refine nd_if_neN hC (tgt := 13) (by omega) dX7_leastLiked_6 (by decide) (fun hc => ?_) (fun hc => ?_) | refine nd_if_ne hC (tgt := 13) dX7_leastLiked_6 (by decide) (fun hc => ?_) (fun hc => ?_)
  · refine nd_ldcwI hC q3305 dX7_leastLiked_13 ?_
    refine nd_v_eq (y := .int (nI 536870912)) (by rfl) ?_
    exact J _ (by rw [if_neg hc])
  · refine nd_iconst hC (v := nI 0) (by rfl) dX7_leastLiked_9 ?_
    refine nd_goto hC (tgt := 16) dX7_leastLiked_10 (by decide) ?_
    exact J _ (by rw [if_pos hc])
theorem sp_isBetter (hg : nd_OK g) (hd : 6 ≤ d) (hw : mo_W h0 A F B h) {p : Nat} {N : nk_N} {l : List (List Nat)} (hp : p ≤ 10) (hN : mo_nap (A 0) N) (hNok : nk_ok N) (hl : mo_lk (A 19) p l) (hok : lk_ok (nk_n N) l) (hk : ∀ A2 h2, mo_s2 A A2 → mo_W h0 A2 F B h2 → K (.inl (some (.int (nd_b (nk_better N (mo_fr (A 0)) (mo_bk (A 0)) l p (A 27)))))) h2) : nd_M g mX7_isBetter d 0 0 [.ref 101, .int (nI p)] h K := by
  have hw4 := hNok.2.2.1
  have hlen := hN.2.2.1
  have key : ∀ x y : Int32, (¬ x < y) ↔ y ≤ x := fun x y => by rw [Int32.lt_iff_toInt_lt, Int32.le_iff_toInt_le]; omega
  refine nd_enter hg (by decide) rfl (Nat.le_of_ble_eq_true rfl) (fun X hC => ?_)
  refine nd_iconst hC (v := nI 0) (by rfl) dX7_isBetter_0 ?_
  refine nd_istore_n hC dX7_isBetter_1 (Nat.le_of_ble_eq_true rfl) ?_
  refine nd_iconst hC (v := nI 0) (by rfl) dX7_isBetter_2 ?_
  refine nd_istore_n hC dX7_isBetter_3 (Nat.le_of_ble_eq_true rfl) ?_
  have L : ∀ i, i ≤ (nk_w N).length → ∀ A2 h2, mo_s2 A A2 → mo_W h0 A2 F B h2 → (∀ j, j < i → decide (A 27 j ≤ nk_likes N (mo_fr (A 0)) (mo_bk (A 0)) l p j) = true) → nd_W g mX7_isBetter d 0 0 K X 4 [some (.ref 101), some (.int (nI p)), some (.int (nd_b ((List.range i).any (fun gs => decide (A 27 gs < nk_likes N (mo_fr (A 0)) (mo_bk (A 0)) l p gs))))), some (.int (nI i)), none] [] h2 0 0 := by
    refine nd_for (nk_w N).length _ ?_ ?_
    · intro A2 h hs hw ha
      refine nd_iload_n hC dX7_isBetter_4 rfl ?_
      refine nd_aload_n hC dX7_isBetter_5 rfl rfl ?_
      refine mo_get_known hC hw rfl dX7_isBetter_6 ?_
      refine nd_iconst hC (v := nI 2) (by rfl) dX7_isBetter_9 ?_
      refine nd_ialoadN hC hw.known (by omega) (by decide) dX7_isBetter_10 ?_
      rw [hs 0 (by decide) (by decide), hlen]
      first | with_reducible refine nd_icmp_geN hC (tgt := 62) (by omega) (by omega) dX7_isBetter_11 (by decide) (fun hc => ?_) (fun hc => ?_) | refine nd_icmp_ge hC (tgt := 62) dX7_isBetter_11 (by decide) (fun hc => ?_) (fun hc => ?_)
      · refine nd_iload_n hC dX7_isBetter_62 rfl ?_
        have e : nk_better N (mo_fr (A 0)) (mo_bk (A 0)) l p (A 27) = (List.range (nk_w N).length).any (fun gs => decide (A 27 gs < nk_likes N (mo_fr (A 0)) (mo_bk (A 0)) l p gs)) := by unfold nk_better; rw [nd_allT ha, Bool.true_and]
        rw [e] at hk
        refine nd_ireturn hC rfl (by first | rfl | exact nd_b_nar _) (by omega) (by omega) dX7_isBetter_63 ((hk A2 h hs hw))
      · omega
    · intro i hi ih A2 h hs hw ha
      have e0 := hs 0 (by decide) (by decide)
      have e27 := hs 27 (by decide) (by decide)
      refine nd_iload_n hC dX7_isBetter_4 rfl ?_
      refine nd_aload_n hC dX7_isBetter_5 rfl rfl ?_
      refine mo_get_known hC hw rfl dX7_isBetter_6 ?_
      refine nd_iconst hC (v := nI 2) (by rfl) dX7_isBetter_9 ?_
      refine nd_ialoadN hC hw.known (by omega) (by decide) dX7_isBetter_10 ?_
      rw [e0, hlen]
      first | with_reducible refine nd_icmp_geN hC (tgt := 62) (by omega) (by omega) dX7_isBetter_11 (by decide) (fun hc => ?_) (fun hc => ?_) | refine nd_icmp_ge hC (tgt := 62) dX7_isBetter_11 (by decide) (fun hc => ?_) (fun hc => ?_)
      · omega
      refine nd_aload_n hC dX7_isBetter_14 rfl rfl ?_
      refine nd_iload_n hC dX7_isBetter_15 rfl ?_
      refine nd_iload_n hC dX7_isBetter_16 rfl ?_
      refine mo_callV (As := [_, _]) (d2 := d - 1) hC hw rfl lkX7_355 lyX7_355 (Nat.le_of_ble_eq_true rfl) (by omega) rfl (by exact Nat.le_of_ble_eq_true rfl) (Nat.zero_le _) (Nat.zero_le _) dX7_isBetter_17 rfl ((sp_likesAt hg (by omega) hw hp hi (by rw [e0]; exact hN) hNok (by rw [hs 19 (by decide) (by decide)]; exact hl) hok ?_))
      intro A3 h hs3 hw
      rw [e0]
      have hs4 := hs.trans hs3
      have e27 := hs4 27 (by decide) (by decide)
      generalize hLi : nk_likes N (mo_fr (A 0)) (mo_bk (A 0)) l p i = Li
      refine nd_istore hC dX7_isBetter_20 (Nat.le_of_ble_eq_true rfl) ?_
      refine nd_iload hC dX7_isBetter_22 rfl ?_
      refine nd_aload_n hC dX7_isBetter_24 rfl rfl ?_
      refine mo_get_likedNow hC hw rfl dX7_isBetter_25 ?_
      refine nd_iload_n hC dX7_isBetter_28 rfl ?_
      refine nd_ialoadN hC hw.likedNow (by omega) (by decide) dX7_isBetter_29 ?_
      rw [e27]
      refine nd_icmp_ge hC (tgt := 35) dX7_isBetter_30 (by decide) (fun hc => ?_) (fun hc => ?_)
      · have J : nd_W g mX7_isBetter d 0 0 K X 55 [some (.ref 101), some (.int (nI p)), some (.int (nd_b ((List.range i).any (fun gs => decide (A 27 gs < nk_likes N (mo_fr (A 0)) (mo_bk (A 0)) l p gs))))), some (.int (nI i)), some (.int Li)] [.int (nd_b ((List.range (i + 1)).any (fun gs => decide (A 27 gs < nk_likes N (mo_fr (A 0)) (mo_bk (A 0)) l p gs))))] h 0 0 := by
          refine nd_istore_n hC dX7_isBetter_55 (Nat.le_of_ble_eq_true rfl) ?_
          first | with_reducible refine nd_iincN hC dX7_isBetter_56 rfl (Nat.le_of_ble_eq_true rfl) ?_ | refine nd_iinc hC dX7_isBetter_56 rfl rfl (Nat.le_of_ble_eq_true rfl) ?_
          refine nd_goto hC (tgt := 4) dX7_isBetter_59 (by decide) ?_
          refine nd_drop 4 ?_
          refine ih A3 h hs4 hw (fun j hj => ?_)
          by_cases e : j = i
          · subst e; rw [hLi]; exact decide_eq_true hc
          · exact ha j (by omega)
        have e9 : (List.range (i + 1)).any (fun gs => decide (A 27 gs < nk_likes N (mo_fr (A 0)) (mo_bk (A 0)) l p gs)) = ((List.range i).any (fun gs => decide (A 27 gs < nk_likes N (mo_fr (A 0)) (mo_bk (A 0)) l p gs)) || decide (A 27 i < Li)) := by
          rw [List.range_succ, List.any_append, ← hLi]; simp
        rw [e9] at J
        generalize (List.range i).any (fun gs => decide (A 27 gs < nk_likes N (mo_fr (A 0)) (mo_bk (A 0)) l p gs)) = bb at *
        refine nd_iload_n hC dX7_isBetter_35 rfl ?_
        first | with_reducible refine nd_if_neB hC (tgt := 50) dX7_isBetter_36 (by decide) (fun hq => ?_) (fun hq => ?_) | with_reducible refine nd_if_neN hC (tgt := 50) (by omega) dX7_isBetter_36 (by decide) (fun hq => ?_) (fun hq => ?_) | refine nd_if_ne hC (tgt := 50) dX7_isBetter_36 (by decide) (fun hq => ?_) (fun hq => ?_)
        · refine nd_iconst hC (v := nI 1) (by rfl) dX7_isBetter_50 ?_
          refine nd_goto hC (tgt := 55) dX7_isBetter_51 (by decide) ?_
          rw [hq, Bool.true_or] at J
          rw [hq]
          exact J
        · refine nd_iload hC dX7_isBetter_39 rfl ?_
          refine nd_aload_n hC dX7_isBetter_41 rfl rfl ?_
          refine mo_get_likedNow hC hw rfl dX7_isBetter_42 ?_
          refine nd_iload_n hC dX7_isBetter_45 rfl ?_
          refine nd_ialoadN hC hw.likedNow (by omega) (by decide) dX7_isBetter_46 ?_
          rw [e27]
          rw [hq, Bool.false_or] at J
          rw [hq]
          refine nd_icmp_le hC (tgt := 54) dX7_isBetter_47 (by decide) (fun hz => ?_) (fun hz => ?_)
          · refine nd_iconst hC (v := nI 0) (by rfl) dX7_isBetter_54 ?_
            rw [decide_eq_false ((key _ _).mpr hz)] at J
            exact J
          · refine nd_iconst hC (v := nI 1) (by rfl) dX7_isBetter_50 ?_
            refine nd_goto hC (tgt := 55) dX7_isBetter_51 (by decide) ?_
            rw [decide_eq_true (Decidable.of_not_not (fun z => hz ((key _ _).mp z)))] at J
            exact J
      · refine nd_iconst hC (v := nI 0) (by rfl) dX7_isBetter_33 ?_
        have e : nk_better N (mo_fr (A 0)) (mo_bk (A 0)) l p (A 27) = false := by
          unfold nk_better
          rw [nd_allF hi (by rw [hLi]; exact decide_eq_false hc)]; rfl
        rw [e] at hk
        refine nd_ireturn hC rfl (by first | rfl | exact nd_b_nar _) (by omega) (by omega) dX7_isBetter_34 ((hk A3 h hs4 hw))
  exact L 0 (Nat.zero_le _) A h mo_s2.rfl hw (fun j hj => by omega)
end MO13

