set_option maxRecDepth 100000
theorem va_up_id {α : Type} (f : Nat → α) (k : Nat) : va_up f k (f k) = f := by funext j; by_cases e : j = k <;> simp [va_up, e]
section MO6
variable {g : nd_G} {d : Nat} {K : nd_K} {h h0 : nd_H} {A : Nat → Nat → Int32} {F : Nat → Int32} {B : Nat → Nat → Int64} {f : Nat → Int32}
theorem sp_laysPlaces (hg : nd_OK g) (hd : 1 ≤ d) (hw : mo_W h0 A F B h) {p n : Nat} {l : List (List Nat)} (hp : p ≤ 10) (hl : mo_lk (A 19) p l) (hok : lk_ok n l) (hn : n ≤ 6) (hk : ∀ f2 h2, mo_pl f2 l n → mo_W h0 (va_up A 20 f2) F B h2 → K (.inl none) h2) : nd_M g mX7_laysPlaces d 0 0 [.ref 101, .int (nI p)] h K := by
  have hwd := lk_width hok
  have e19 : ∀ f2, (va_up A 20 f2) 19 = A 19 := fun f2 => va_up_n A f2 (by decide)
  refine nd_enter hg (by decide) rfl (Nat.le_of_ble_eq_true rfl) (fun X hC => ?_)
  refine nd_iconst hC (v := nI 0) (by rfl) dX7_laysPlaces_0 ?_
  refine nd_istore_n hC dX7_laysPlaces_1 (Nat.le_of_ble_eq_true rfl) ?_
  have L : ∀ t, t ≤ l.length → ∀ f2 h2, (∀ x u j, lk_at l x u j → u < t → f2 (x / 2) = nI (16 * u + 2 * j + x % 2)) → mo_W h0 (va_up A 20 f2) F B h2 → nd_W g mX7_laysPlaces d 0 0 K X 2 [some (.ref 101), some (.int (nI p)), some (.int (nI t)), none] [] h2 0 0 := by
    refine nd_for l.length _ ?_ ?_
    · intro f2 h hf hw
      refine nd_iload_n hC dX7_laysPlaces_2 rfl ?_
      refine nd_aload_n hC dX7_laysPlaces_3 rfl rfl ?_
      refine nd_iload_n hC dX7_laysPlaces_4 rfl ?_
      refine mo_callV (As := [_]) (d2 := d - 1) hC hw rfl lkX7_256 lyX7_256 (Nat.le_of_ble_eq_true rfl) (by omega) rfl (by exact Nat.le_of_ble_eq_true rfl) (Nat.zero_le _) (Nat.zero_le _) dX7_laysPlaces_5 rfl ((sp_columnsAt hg hw hp ?_))
      refine nd_v_eq (y := .int (nI l.length)) (by rw [e19, hl.1]) ?_
      first | with_reducible refine nd_icmp_geN hC (tgt := 67) (by omega) (by omega) dX7_laysPlaces_8 (by decide) (fun hc => ?_) (fun hc => ?_) | refine nd_icmp_ge hC (tgt := 67) dX7_laysPlaces_8 (by decide) (fun hc => ?_) (fun hc => ?_)
      · refine nd_return hC rfl (by omega) (by omega) dX7_laysPlaces_67 ((hk f2 h (fun c hc => ?_) hw))
        obtain ⟨x, t, i, q, rfl⟩ := lk_there hok hc
        rw [lk_pos_eq hok q, hf x t i q q.1]
      · omega
    · intro t ht ih f2 h hf hw
      have hcol := lk_one l t
      have hfl := lk_len hok
      refine nd_iload_n hC dX7_laysPlaces_2 rfl ?_
      refine nd_aload_n hC dX7_laysPlaces_3 rfl rfl ?_
      refine nd_iload_n hC dX7_laysPlaces_4 rfl ?_
      refine mo_callV (As := [_]) (d2 := d - 1) hC hw rfl lkX7_256 lyX7_256 (Nat.le_of_ble_eq_true rfl) (by omega) rfl (by exact Nat.le_of_ble_eq_true rfl) (Nat.zero_le _) (Nat.zero_le _) dX7_laysPlaces_5 rfl ((sp_columnsAt hg hw hp ?_))
      refine nd_v_eq (y := .int (nI l.length)) (by rw [e19, hl.1]) ?_
      first | with_reducible refine nd_icmp_geN hC (tgt := 67) (by omega) (by omega) dX7_laysPlaces_8 (by decide) (fun hc => ?_) (fun hc => ?_) | refine nd_icmp_ge hC (tgt := 67) dX7_laysPlaces_8 (by decide) (fun hc => ?_) (fun hc => ?_)
      · omega
      refine nd_iconst hC (v := nI 0) (by rfl) dX7_laysPlaces_11 ?_
      refine nd_istore_n hC dX7_laysPlaces_12 (Nat.le_of_ble_eq_true rfl) ?_
      have L2 : ∀ i, i ≤ (l.getD t []).length → ∀ f2 h2, (∀ x u j, lk_at l x u j → (u < t ∨ u = t ∧ j < i) → f2 (x / 2) = nI (16 * u + 2 * j + x % 2)) → mo_W h0 (va_up A 20 f2) F B h2 → nd_W g mX7_laysPlaces d 0 0 K X 13 [some (.ref 101), some (.int (nI p)), some (.int (nI t)), some (.int (nI i))] [] h2 0 0 := by
        refine nd_for (l.getD t []).length _ ?_ ?_
        · intro f2 h hf hw
          refine nd_iload_n hC dX7_laysPlaces_13 rfl ?_
          refine nd_aload_n hC dX7_laysPlaces_14 rfl rfl ?_
          refine nd_iload_n hC dX7_laysPlaces_15 rfl ?_
          refine nd_iload_n hC dX7_laysPlaces_16 rfl ?_
          refine mo_callV (As := [_, _]) (d2 := d - 1) hC hw rfl lkX7_261 lyX7_261 (Nat.le_of_ble_eq_true rfl) (by omega) rfl (by exact Nat.le_of_ble_eq_true rfl) (Nat.zero_le _) (Nat.zero_le _) dX7_laysPlaces_17 rfl ((sp_highAt hg hw (by omega) ?_))
          refine nd_v_eq (y := .int (nI (l.getD t []).length)) (by rw [e19, (hl.2 t ht).1]) ?_
          first | with_reducible refine nd_icmp_geN hC (tgt := 61) (by omega) (by omega) dX7_laysPlaces_20 (by decide) (fun hc => ?_) (fun hc => ?_) | refine nd_icmp_ge hC (tgt := 61) dX7_laysPlaces_20 (by decide) (fun hc => ?_) (fun hc => ?_)
          · first | with_reducible refine nd_iincN hC dX7_laysPlaces_61 rfl (Nat.le_of_ble_eq_true rfl) ?_ | refine nd_iinc hC dX7_laysPlaces_61 rfl rfl (Nat.le_of_ble_eq_true rfl) ?_
            refine nd_goto hC (tgt := 2) dX7_laysPlaces_64 (by decide) ?_
            refine nd_drop 3 ?_
            refine ih f2 h (fun x u j q hu => hf x u j q ?_) hw
            by_cases e : u = t
            · exact Or.inr ⟨e, by rw [← e]; exact q.2.1⟩
            · exact Or.inl (by omega)
          · omega
        · intro i hi ih2 f2 h hf hw
          have hat := lk_col_at hok ht hi
          have hlt := lk_at_lt hok hn hat
          have hhalf := lk_half_lt hok hat
          refine nd_iload_n hC dX7_laysPlaces_13 rfl ?_
          refine nd_aload_n hC dX7_laysPlaces_14 rfl rfl ?_
          refine nd_iload_n hC dX7_laysPlaces_15 rfl ?_
          refine nd_iload_n hC dX7_laysPlaces_16 rfl ?_
          refine mo_callV (As := [_, _]) (d2 := d - 1) hC hw rfl lkX7_261 lyX7_261 (Nat.le_of_ble_eq_true rfl) (by omega) rfl (by exact Nat.le_of_ble_eq_true rfl) (Nat.zero_le _) (Nat.zero_le _) dX7_laysPlaces_17 rfl ((sp_highAt hg hw (by omega) ?_))
          refine nd_v_eq (y := .int (nI (l.getD t []).length)) (by rw [e19, (hl.2 t ht).1]) ?_
          first | with_reducible refine nd_icmp_geN hC (tgt := 61) (by omega) (by omega) dX7_laysPlaces_20 (by decide) (fun hc => ?_) (fun hc => ?_) | refine nd_icmp_ge hC (tgt := 61) dX7_laysPlaces_20 (by decide) (fun hc => ?_) (fun hc => ?_)
          · omega
          generalize hx : (l.getD t []).getD i 0 = x at hat hlt hhalf
          refine nd_aload_n hC dX7_laysPlaces_23 rfl rfl ?_
          refine mo_get_places hC hw rfl dX7_laysPlaces_24 ?_
          refine nd_aload_n hC dX7_laysPlaces_27 rfl rfl ?_
          refine nd_iload_n hC dX7_laysPlaces_28 rfl ?_
          refine nd_iload_n hC dX7_laysPlaces_29 rfl ?_
          refine nd_iload_n hC dX7_laysPlaces_30 rfl ?_
          refine mo_callV (As := [_, _, _]) (d2 := d - 1) hC hw rfl lkX7_264 lyX7_264 (Nat.le_of_ble_eq_true rfl) (by omega) rfl (by exact Nat.le_of_ble_eq_true rfl) (Nat.zero_le _) (Nat.zero_le _) dX7_laysPlaces_31 rfl ((sp_layerAt hg hw (by omega) ?_))
          refine nd_v_eq (y := .int (nI x)) (by rw [e19, (hl.2 t ht).2 i hi, hx]) ?_
          refine nd_iconst hC (v := nI 2) (by rfl) dX7_laysPlaces_34 ?_
          first | with_reducible refine nd_idivN hC (by omega) (by omega) (by omega) dX7_laysPlaces_35 ?_ | refine nd_idiv hC (by decide) dX7_laysPlaces_35 ?_
          refine nd_bipush hC (v := nI 16) (by rfl) dX7_laysPlaces_36 ?_
          refine nd_iload_n hC dX7_laysPlaces_38 rfl ?_
          first | with_reducible refine nd_imulN hC dX7_laysPlaces_39 ?_ | refine nd_imul hC dX7_laysPlaces_39 ?_
          refine nd_iconst hC (v := nI 2) (by rfl) dX7_laysPlaces_40 ?_
          refine nd_iload_n hC dX7_laysPlaces_41 rfl ?_
          first | with_reducible refine nd_imulN hC dX7_laysPlaces_42 ?_ | refine nd_imul hC dX7_laysPlaces_42 ?_
          first | with_reducible refine nd_iaddN hC dX7_laysPlaces_43 ?_ | refine nd_iadd hC dX7_laysPlaces_43 ?_
          refine nd_aload_n hC dX7_laysPlaces_44 rfl rfl ?_
          refine nd_iload_n hC dX7_laysPlaces_45 rfl ?_
          refine nd_iload_n hC dX7_laysPlaces_46 rfl ?_
          refine nd_iload_n hC dX7_laysPlaces_47 rfl ?_
          refine mo_callV (As := [_, _, _]) (d2 := d - 1) hC hw rfl lkX7_264 lyX7_264 (Nat.le_of_ble_eq_true rfl) (by omega) rfl (by exact Nat.le_of_ble_eq_true rfl) (Nat.zero_le _) (Nat.zero_le _) dX7_laysPlaces_48 rfl ((sp_layerAt hg hw (by omega) ?_))
          refine nd_v_eq (y := .int (nI x)) (by rw [e19, (hl.2 t ht).2 i hi, hx]) ?_
          refine nd_iconst hC (v := nI 2) (by rfl) dX7_laysPlaces_51 ?_
          first | with_reducible refine nd_iremN hC (by omega) (by omega) (by omega) dX7_laysPlaces_52 ?_ | refine nd_irem hC (by decide) dX7_laysPlaces_52 ?_
          first | with_reducible refine nd_iaddN hC dX7_laysPlaces_53 ?_ | refine nd_iadd hC dX7_laysPlaces_53 ?_
          refine mo_ast_places hC hw (by omega) dX7_laysPlaces_54 (fun h hw => ?_)
          try simp only [va_up_up, va_up_s] at hw
          first | with_reducible refine nd_iincN hC dX7_laysPlaces_55 rfl (Nat.le_of_ble_eq_true rfl) ?_ | refine nd_iinc hC dX7_laysPlaces_55 rfl rfl (Nat.le_of_ble_eq_true rfl) ?_
          refine nd_goto hC (tgt := 13) dX7_laysPlaces_58 (by decide) ?_
          refine ih2 _ h (fun y u j q hu => ?_) hw
          by_cases e : y / 2 = x / 2
          · obtain ⟨e1, e2⟩ := lk_uniq hok q hat e
            subst e1; subst e2
            have e3 : y = x := by rw [← q.2.2, ← hat.2.2]
            rw [e, upd_s, e3]
          · rw [upd_n e]
            refine hf y u j q ?_
            rcases hu with hu | ⟨hu, hj⟩
            · exact Or.inl hu
            · refine Or.inr ⟨hu, ?_⟩
              by_cases e2 : j = i
              · subst e2; subst hu
                exact absurd (by rw [← q.2.2, hx]) e
              · omega
      exact L2 0 (Nat.zero_le _) f2 h (fun x u j q hu => hf x u j q (by omega)) hw
  have hw2 : mo_W h0 (va_up A 20 (A 20)) F B h := by rw [va_up_id]; exact hw
  exact L 0 (Nat.zero_le _) (A 20) h (fun x u j q hu => by omega) hw2
theorem lk_pos_lt {n : Nat} {l : List (List Nat)} (h : lk_ok n l) (hn : n ≤ 6) {c : Nat} (hc : c < n) : lk_pos l c < 96 := by
  obtain ⟨x, t, i, q, rfl⟩ := lk_there h hc
  rw [lk_pos_eq h q]
  have := lk_at_lt h hn q
  omega
theorem sp_creaseOf (hg : nd_OK g) (hw : mo_W h0 A F B h) {n k : Nat} {l : List (List Nat)} (hpl : mo_pl (A 20) l n) (hok : lk_ok n l) (hn : n ≤ 6) (hk1 : k + 1 < n) (hk : K (.inl (some (.int (nI (lk_cr l k))))) h) : nd_M g mX7_creaseOf d 0 0 [.ref 101, .int (nI k)] h K := by
  have ha := lk_pos_lt hok hn (c := k) (by omega)
  have hb := lk_pos_lt hok hn (c := k + 1) (by omega)
  unfold lk_cr at hk
  refine nd_enter hg (by decide) rfl (Nat.le_of_ble_eq_true rfl) (fun X hC => ?_)
  refine nd_aload_n hC dX7_creaseOf_0 rfl rfl ?_
  refine mo_get_places hC hw rfl dX7_creaseOf_1 ?_
  refine nd_iload_n hC dX7_creaseOf_4 rfl ?_
  refine nd_ialoadN hC hw.places (by omega) (by decide) dX7_creaseOf_5 ?_
  rw [hpl k (by omega)]
  refine nd_istore_n hC dX7_creaseOf_6 (Nat.le_of_ble_eq_true rfl) ?_
  refine nd_aload_n hC dX7_creaseOf_7 rfl rfl ?_
  refine mo_get_places hC hw rfl dX7_creaseOf_8 ?_
  refine nd_iload_n hC dX7_creaseOf_11 rfl ?_
  refine nd_iconst hC (v := nI 1) (by rfl) dX7_creaseOf_12 ?_
  first | with_reducible refine nd_iaddN hC dX7_creaseOf_13 ?_ | refine nd_iadd hC dX7_creaseOf_13 ?_
  refine nd_ialoadN hC hw.places (by omega) (by decide) dX7_creaseOf_14 ?_
  rw [hpl (k + 1) (by omega)]
  generalize lk_pos l k = a at *
  generalize lk_pos l (k + 1) = b at *
  refine nd_istore_n hC dX7_creaseOf_15 (Nat.le_of_ble_eq_true rfl) ?_
  refine nd_iload_n hC dX7_creaseOf_16 rfl ?_
  refine nd_bipush hC (v := nI 16) (by rfl) dX7_creaseOf_17 ?_
  first | with_reducible refine nd_idivN hC (by omega) (by omega) (by omega) dX7_creaseOf_19 ?_ | refine nd_idiv hC (by decide) dX7_creaseOf_19 ?_
  refine nd_iload_n hC dX7_creaseOf_20 rfl ?_
  refine nd_bipush hC (v := nI 16) (by rfl) dX7_creaseOf_21 ?_
  first | with_reducible refine nd_idivN hC (by omega) (by omega) (by omega) dX7_creaseOf_23 ?_ | refine nd_idiv hC (by decide) dX7_creaseOf_23 ?_
  first | with_reducible refine nd_icmp_eqN hC (tgt := 29) (by omega) (by omega) dX7_creaseOf_24 (by decide) (fun hc => ?_) (fun hc => ?_) | refine nd_icmp_eq hC (tgt := 29) dX7_creaseOf_24 (by decide) (fun hc => ?_) (fun hc => ?_)
  · refine nd_iload_n hC dX7_creaseOf_29 rfl ?_
    refine nd_iload_n hC dX7_creaseOf_30 rfl ?_
    first | ((with_reducible refine nd_tst2 ?_); refine nd_mminN hC (by omega) (by omega) q3079 (by omega) (by omega) (by exact Nat.le_of_ble_eq_true rfl) dX7_creaseOf_31 ?_) | refine nd_mmin hC q3079 (by omega) (by omega) (by exact Nat.le_of_ble_eq_true rfl) dX7_creaseOf_31 ?_
    refine nd_iconst hC (v := nI 2) (by rfl) dX7_creaseOf_34 ?_
    rw [if_neg (by simpa using hc)] at hk
    first | with_reducible refine nd_iremN hC (by omega) (by omega) (by omega) dX7_creaseOf_35 ?_ | refine nd_irem hC (by decide) dX7_creaseOf_35 ?_
    refine nd_iconst hC (v := nI 1) (by rfl) dX7_creaseOf_36 ?_
    first | with_reducible refine nd_icmp_neN hC (tgt := 44) (by omega) (by omega) dX7_creaseOf_37 (by decide) (fun hq => ?_) (fun hq => ?_) | refine nd_icmp_ne hC (tgt := 44) dX7_creaseOf_37 (by decide) (fun hq => ?_) (fun hq => ?_)
    · refine nd_iconst hC (v := nI 1) (by rfl) dX7_creaseOf_44 ?_
      rw [if_neg hq] at hk
      refine nd_ireturn hC rfl (by first | rfl | exact nd_b_nar _) (by omega) (by omega) dX7_creaseOf_45 (hk)
    · refine nd_iconst hC (v := nI 2) (by rfl) dX7_creaseOf_40 ?_
      refine nd_goto hC (tgt := 45) dX7_creaseOf_41 (by decide) ?_
      rw [if_pos hq] at hk
      refine nd_ireturn hC rfl (by first | rfl | exact nd_b_nar _) (by omega) (by omega) dX7_creaseOf_45 (hk)
  · refine nd_iconst hC (v := nI 0) (by rfl) dX7_creaseOf_27 ?_
    rw [if_pos hc] at hk
    refine nd_ireturn hC rfl (by first | rfl | exact nd_b_nar _) (by omega) (by omega) dX7_creaseOf_28 (hk)
theorem lk_cr_le (l : List (List Nat)) (k : Nat) : lk_cr l k ≤ 2 := by unfold lk_cr; split <;> (try split) <;> omega
theorem lk_crs_lt (l : List (List Nat)) (k : Nat) : lk_crs l k < 3 ^ k := by
  induction k with
  | zero => simp [lk_crs]
  | succ k ih => simp only [lk_crs]; have := lk_cr_le l k; rw [Nat.pow_succ]; omega
theorem sp_creasesAt (hg : nd_OK g) (hd : 2 ≤ d) (hw : mo_W h0 A F B h) {p n : Nat} {l : List (List Nat)} (hp : p ≤ 10) (hc0 : A 0 1 = nI n) (hl : mo_lk (A 19) p l) (hok : lk_ok n l) (hn : n ≤ 6) (hk : ∀ f2 h2, mo_pl f2 l n → mo_W h0 (va_up A 20 f2) F B h2 → K (.inl (some (.int (nI (lk_crs l (n - 1)))))) h2) : nd_M g mX7_creasesAt d 0 0 [.ref 101, .int (nI p)] h K := by
  refine nd_enter hg (by decide) rfl (Nat.le_of_ble_eq_true rfl) (fun X hC => ?_)
  refine nd_aload_n hC dX7_creasesAt_0 rfl rfl ?_
  refine nd_iload_n hC dX7_creasesAt_1 rfl ?_
  refine mo_callV (As := [_]) (d2 := d - 1) hC hw rfl lkX7_302 lyX7_302 (Nat.le_of_ble_eq_true rfl) (by omega) rfl (by exact Nat.le_of_ble_eq_true rfl) (Nat.zero_le _) (Nat.zero_le _) dX7_creasesAt_2 rfl ((sp_laysPlaces hg (by omega) hw hp hl hok hn ?_))
  intro f2 h hpl hw
  refine nd_iconst hC (v := nI 0) (by rfl) dX7_creasesAt_5 ?_
  refine nd_istore_n hC dX7_creasesAt_6 (Nat.le_of_ble_eq_true rfl) ?_
  refine nd_iconst hC (v := nI 0) (by rfl) dX7_creasesAt_7 ?_
  refine nd_istore_n hC dX7_creasesAt_8 (Nat.le_of_ble_eq_true rfl) ?_
  have hpl2 : mo_pl (va_up A 20 f2 20) l n := by rw [va_up_s]; exact hpl
  have e0 : (va_up A 20 f2) 0 1 = nI n := by rw [va_up_n A f2 (by decide)]; exact hc0
  have L : ∀ k, k ≤ n - 1 → nd_W g mX7_creasesAt d 0 0 K X 9 [some (.ref 101), some (.int (nI p)), some (.int (nI (lk_crs l k))), some (.int (nI k))] [] h 0 0 := by
    refine nd_for (n - 1) _ ?_ ?_
    · refine nd_iload_n hC dX7_creasesAt_9 rfl ?_
      refine nd_iconst hC (v := nI 1) (by rfl) dX7_creasesAt_10 ?_
      first | with_reducible refine nd_iaddN hC dX7_creasesAt_11 ?_ | refine nd_iadd hC dX7_creasesAt_11 ?_
      refine nd_aload_n hC dX7_creasesAt_12 rfl rfl ?_
      refine mo_callV (As := []) (d2 := d - 1) hC hw rfl lkX7_253 lyX7_253 (Nat.le_of_ble_eq_true rfl) (by omega) rfl (by exact Nat.le_of_ble_eq_true rfl) (Nat.zero_le _) (Nat.zero_le _) dX7_creasesAt_13 rfl ((sp_cells hg hw ?_))
      rw [e0]
      first | with_reducible refine nd_icmp_geN hC (tgt := 35) (by omega) (by omega) dX7_creasesAt_16 (by decide) (fun hc => ?_) (fun hc => ?_) | refine nd_icmp_ge hC (tgt := 35) dX7_creasesAt_16 (by decide) (fun hc => ?_) (fun hc => ?_)
      · refine nd_iload_n hC dX7_creasesAt_35 rfl ?_
        refine nd_ireturn hC rfl (by first | rfl | exact nd_b_nar _) (by omega) (by omega) dX7_creasesAt_36 ((hk f2 h hpl hw))
      · omega
    · intro k hk2 ih
      refine nd_iload_n hC dX7_creasesAt_9 rfl ?_
      refine nd_iconst hC (v := nI 1) (by rfl) dX7_creasesAt_10 ?_
      first | with_reducible refine nd_iaddN hC dX7_creasesAt_11 ?_ | refine nd_iadd hC dX7_creasesAt_11 ?_
      refine nd_aload_n hC dX7_creasesAt_12 rfl rfl ?_
      refine mo_callV (As := []) (d2 := d - 1) hC hw rfl lkX7_253 lyX7_253 (Nat.le_of_ble_eq_true rfl) (by omega) rfl (by exact Nat.le_of_ble_eq_true rfl) (Nat.zero_le _) (Nat.zero_le _) dX7_creasesAt_13 rfl ((sp_cells hg hw ?_))
      rw [e0]
      first | with_reducible refine nd_icmp_geN hC (tgt := 35) (by omega) (by omega) dX7_creasesAt_16 (by decide) (fun hc => ?_) (fun hc => ?_) | refine nd_icmp_ge hC (tgt := 35) dX7_creasesAt_16 (by decide) (fun hc => ?_) (fun hc => ?_)
      · omega
      refine nd_iconst hC (v := nI 3) (by rfl) dX7_creasesAt_19 ?_
      refine nd_iload_n hC dX7_creasesAt_20 rfl ?_
      first | with_reducible refine nd_imulN hC dX7_creasesAt_21 ?_ | refine nd_imul hC dX7_creasesAt_21 ?_
      refine nd_aload_n hC dX7_creasesAt_22 rfl rfl ?_
      refine nd_iload_n hC dX7_creasesAt_23 rfl ?_
      refine mo_callV (As := [_]) (d2 := d - 1) hC hw rfl lkX7_305 lyX7_305 (Nat.le_of_ble_eq_true rfl) (by omega) rfl (by exact Nat.le_of_ble_eq_true rfl) (Nat.zero_le _) (Nat.zero_le _) dX7_creasesAt_24 rfl ((sp_creaseOf hg hw hpl2 hok hn (by omega) ?_))
      first | with_reducible refine nd_iaddN hC dX7_creasesAt_27 ?_ | refine nd_iadd hC dX7_creasesAt_27 ?_
      refine nd_istore_n hC dX7_creasesAt_28 (Nat.le_of_ble_eq_true rfl) ?_
      first | with_reducible refine nd_iincN hC dX7_creasesAt_29 rfl (Nat.le_of_ble_eq_true rfl) ?_ | refine nd_iinc hC dX7_creasesAt_29 rfl rfl (Nat.le_of_ble_eq_true rfl) ?_
      refine nd_goto hC (tgt := 9) dX7_creasesAt_32 (by decide) ?_
      exact ih
  exact L 0 (Nat.zero_le _)
end MO6

