set_option maxRecDepth 100000
section MO37
variable {g : nd_G} {d : Nat} {K : nd_K} {h h0 : nd_H} {A : Nat → Nat → Int32} {F : Nat → Int32} {B : Nat → Nat → Int64} {f : Nat → Int32}
theorem mo_I.im {tt i : Nat} {S : sy_S} {f2 f3 : Nat → Int32} (hI : mo_I tt S A F B) (hS : sy_ok S) (hi : i < 3) (e3 : f3 i = nI 1) (o3 : ∀ j, j ≠ i → f3 j = A 3 j) (e2 : ∀ j, j < 2912 → f2 (2912 * i + j) = A 0 j) (o2 : ∀ j, ¬ (2912 * i ≤ j ∧ j < 2912 * i + 2912) → f2 j = A 2 j) : mo_I tt (sy_im S i) (va_up (va_up A 3 f3) 2 f2) F B := by
  obtain ⟨h1, h2, h3⟩ := hI
  refine ⟨h1, fun j hj => ?_, h3⟩
  show ((if j = i then some S.1 else sy_i S j) = none → f3 j = nI 0) ∧ ∀ P, (if j = i then some S.1 else sy_i S j) = some P → f3 j = nI 1 ∧ mo_kn (fun k => f2 (2912 * j + k)) P
  by_cases e : j = i
  · subst e
    rw [if_pos rfl]
    refine ⟨fun q => absurd q (by simp), fun P eP => ?_⟩
    obtain rfl := Option.some.inj eP
    exact ⟨e3, mo_kn_congr hS.1 h1 e2⟩
  · rw [if_neg e]
    refine ⟨fun q => (o3 j e).trans ((h2 j hj).1 q), fun P eP => ?_⟩
    obtain ⟨a1, a2⟩ := (h2 j hj).2 P eP
    exact ⟨(o3 j e).trans a1, mo_kn_congr (hS.2.1 j hj P eP) a2 (fun k hk => o2 _ (by omega))⟩
theorem mp_image (hg : nd_OK g) (hd : 1 ≤ d) (x : Int32) : mp_ok g h0 mX7_image d [.int x] (mp_v (op_image x)) := by
  intro tt S A F B h K ht hI hS hw hk
  unfold mp_v op_image at hk
  refine nd_enter hg (by decide) rfl (Nat.le_of_ble_eq_true rfl) (fun X hC => ?_)
  refine nd_aload_n hC dX7_image_0 rfl rfl ?_
  refine nd_iload_n hC dX7_image_1 rfl ?_
  first | with_reducible refine nd_i2lN hC (by omega) dX7_image_2 ?_ | refine nd_i2l hC dX7_image_2 ?_
  refine nd_lconst hC (v := lN 0) (by rfl) dX7_image_3 ?_
  refine nd_ldc2 hC q3406 dX7_image_4 ?_
  refine nd_v_eq (y := .long (lN 2)) (by rfl) ?_
  refine mo_callS (As := [_, _, _]) (d2 := d - 1) hC rfl lkX7_138 lyX7_138 (Nat.le_of_ble_eq_true rfl) (by omega) rfl (by exact Nat.le_of_ble_eq_true rfl) (Nat.zero_le _) (Nat.zero_le _) dX7_image_7 rfl ((sp_within hg ?_))
  have e : (decide (lN 0 ≤ x.toInt64) && decide (x.toInt64 ≤ lN 2)) = op_in x 0 2 := by
    unfold op_in
    rw [Bool.eq_iff_iff, Bool.and_eq_true, nd_lle, nd_lle, nd_tl, lN_toInt (by decide), lN_toInt (by decide), decide_eq_true_iff]
    omega
  rw [e]
  first | with_reducible refine nd_if_eqB hC (tgt := 17) dX7_image_10 (by decide) (fun hc => ?_) (fun hc => ?_) | with_reducible refine nd_if_eqN hC (tgt := 17) (by omega) dX7_image_10 (by decide) (fun hc => ?_) (fun hc => ?_) | refine nd_if_eq hC (tgt := 17) dX7_image_10 (by decide) (fun hc => ?_) (fun hc => ?_)
  · rw [if_neg (by rw [hc]; decide)] at hk
    refine nd_iconst hC (v := nI 1) (by rfl) dX7_image_17 ?_
    refine mo_put_thrown hC hw rfl dX7_image_18 (fun h hw => ?_)
    refine nd_aload_n hC dX7_image_21 rfl rfl ?_
    refine mo_get_thrown hC hw rfl dX7_image_22 ?_
    rw [va_up_s]
    refine nd_if_le hC (tgt := 29) dX7_image_25 (by decide) (fun hq => ?_) (fun hq => ?_)
    · exact absurd hq (by decide)
    · refine nd_return hC rfl (by omega) (by omega) dX7_image_28 ((hk A _ B _ (hI.th.t (by omega)) (va_up_s _ _ _) hw))
  · rw [if_pos hc] at hk
    obtain ⟨i, hi, rfl⟩ := op_in_nat hc
    rw [nI_cl (by omega)] at hk
    refine nd_iconst hC (v := nI 0) (by rfl) dX7_image_13 ?_
    refine nd_goto hC (tgt := 18) dX7_image_14 (by decide) ?_
    refine mo_put_thrown hC hw rfl dX7_image_18 (fun h hw => ?_)
    refine nd_aload_n hC dX7_image_21 rfl rfl ?_
    refine mo_get_thrown hC hw rfl dX7_image_22 ?_
    rw [va_up_s]
    refine nd_if_le hC (tgt := 29) dX7_image_25 (by decide) (fun hq => ?_) (fun hq => ?_)
    · refine nd_aload_n hC dX7_image_29 rfl rfl ?_
      refine mo_get_isImage hC hw rfl dX7_image_30 ?_
      refine nd_iload_n hC dX7_image_33 rfl ?_
      refine nd_iconst hC (v := nI 1) (by rfl) dX7_image_34 ?_
      refine mo_zast hC hw (by omega) (by rfl) dX7_image_35 (fun h hw => ?_)
      refine nd_iconst hC (v := nI 0) (by rfl) dX7_image_36 ?_
      refine nd_istore_n hC dX7_image_37 (Nat.le_of_ble_eq_true rfl) ?_
      have L : ∀ k, k ≤ 2912 → ∀ f2 h2, (∀ j, j < k → f2 (2912 * i + j) = A 0 j) → (∀ j, ¬ (2912 * i ≤ j ∧ j < 2912 * i + 2912) → f2 j = A 2 j) → mo_W h0 (va_up (va_up A 3 (upd (A 3) i (nI 1))) 2 f2) (va_up F 4 (nI 0)) B h2 → nd_W g mX7_image d 0 0 K X 38 [some (.ref 101), some (.int (nI i)), some (.int (nI k))] [] h2 0 0 := by
        refine nd_for _ _ ?_ ?_
        · intro f2 h e1 e2 hw
          refine nd_iload_n hC dX7_image_38 rfl ?_
          refine nd_sipush hC (v := nI 2912) (by rfl) dX7_image_39 ?_
          first | with_reducible refine nd_icmp_geN hC (tgt := 69) (by omega) (by omega) dX7_image_42 (by decide) (fun hq => ?_) (fun hq => ?_) | refine nd_icmp_ge hC (tgt := 69) dX7_image_42 (by decide) (fun hq => ?_) (fun hq => ?_)
          · refine nd_return hC rfl (by omega) (by omega) dX7_image_69 ((hk _ _ _ h ((hI.th.im hS (by omega) (upd_s ..) (fun j hj => upd_n hj) e1 e2).t (by omega)) (va_up_s _ _ _) hw))
          · omega
        · intro k hk1 ih f2 h e1 e2 hw
          refine nd_iload_n hC dX7_image_38 rfl ?_
          refine nd_sipush hC (v := nI 2912) (by rfl) dX7_image_39 ?_
          first | with_reducible refine nd_icmp_geN hC (tgt := 69) (by omega) (by omega) dX7_image_42 (by decide) (fun hq => ?_) (fun hq => ?_) | refine nd_icmp_ge hC (tgt := 69) dX7_image_42 (by decide) (fun hq => ?_) (fun hq => ?_)
          · omega
          · refine nd_aload_n hC dX7_image_45 rfl rfl ?_
            refine mo_get_images hC hw rfl dX7_image_46 ?_
            refine nd_sipush hC (v := nI 2912) (by rfl) dX7_image_49 ?_
            refine nd_iload_n hC dX7_image_52 rfl ?_
            first | with_reducible refine nd_imulN hC dX7_image_53 ?_ | refine nd_imul hC dX7_image_53 ?_
            refine nd_iload_n hC dX7_image_54 rfl ?_
            first | with_reducible refine nd_iaddN hC dX7_image_55 ?_ | refine nd_iadd hC dX7_image_55 ?_
            refine nd_aload_n hC dX7_image_56 rfl rfl ?_
            refine mo_get_known hC hw rfl dX7_image_57 ?_
            refine nd_iload_n hC dX7_image_60 rfl ?_
            refine nd_ialoadN hC hw.known (by omega) (by decide) dX7_image_61 ?_
            refine mo_ast_images hC hw (by omega) dX7_image_62 (fun h hw => ?_)
            try simp only [va_up_up, va_up_s] at hw
            first | with_reducible refine nd_iincN hC dX7_image_63 rfl (Nat.le_of_ble_eq_true rfl) ?_ | refine nd_iinc hC dX7_image_63 rfl rfl (Nat.le_of_ble_eq_true rfl) ?_
            refine nd_goto hC (tgt := 38) dX7_image_66 (by decide) ?_
            refine ih _ h (fun j hj => ?_) (fun j hj => by rw [upd_n (by omega)]; exact e2 j hj) hw
            by_cases e : j = k
            · subst e; rw [upd_s]; rfl
            · rw [upd_n (by omega)]; exact e1 j (by omega)
      exact L 0 (Nat.zero_le _) (A 2) h (fun i hi => absurd hi (Nat.not_lt_zero _)) (fun _ _ => rfl) (by rw [show A 2 = (va_up A 3 (upd (A 3) i (nI 1))) 2 from rfl, va_up_id]; exact hw)
    · exact absurd hq (by decide)
theorem mp_restore (hg : nd_OK g) (hd : 1 ≤ d) (x : Int32) : mp_ok g h0 mX7_restore d [.int x] (mp_v (op_restore x)) := by
  intro tt S A F B h K ht hI hS hw hk
  unfold mp_v op_restore at hk
  have JE : ∀ e : Nat, 1 ≤ e → e ≤ 2 → (∀ A2 F2 B2 h2, mo_I (tt + 4) S A2 F2 B2 → F2 4 = nI e → mo_W h0 A2 F2 B2 h2 → K (.inl none) h2) → ∀ X, nd_Cx g mX7_restore X → nd_W g mX7_restore d 0 0 K X 31 [some (.ref 101), some (.int x), none] [.int (nI e), .ref 101] h 0 0 := by
    intro e e1 e3 hk X hC
    refine mo_put_thrown hC hw rfl dX7_restore_31 (fun h hw => ?_)
    refine nd_aload_n hC dX7_restore_34 rfl rfl ?_
    refine mo_get_thrown hC hw rfl dX7_restore_35 ?_
    rw [va_up_s]
    refine nd_if_le hC (tgt := 42) dX7_restore_38 (by decide) (fun hq => ?_) (fun hq => ?_)
    · exact absurd hq (nI_gt0 e1 (by omega))
    · refine nd_return hC rfl (by omega) (by omega) dX7_restore_41 ((hk A _ B _ (hI.th.t (by omega)) (va_up_s _ _ _) hw))
  refine nd_enter hg (by decide) rfl (Nat.le_of_ble_eq_true rfl) (fun X hC => ?_)
  refine nd_aload_n hC dX7_restore_0 rfl rfl ?_
  refine nd_iload_n hC dX7_restore_1 rfl ?_
  first | with_reducible refine nd_i2lN hC (by omega) dX7_restore_2 ?_ | refine nd_i2l hC dX7_restore_2 ?_
  refine nd_lconst hC (v := lN 0) (by rfl) dX7_restore_3 ?_
  refine nd_ldc2 hC q3406 dX7_restore_4 ?_
  refine nd_v_eq (y := .long (lN 2)) (by rfl) ?_
  refine mo_callS (As := [_, _, _]) (d2 := d - 1) hC rfl lkX7_138 lyX7_138 (Nat.le_of_ble_eq_true rfl) (by omega) rfl (by exact Nat.le_of_ble_eq_true rfl) (Nat.zero_le _) (Nat.zero_le _) dX7_restore_7 rfl ((sp_within hg ?_))
  have e : (decide (lN 0 ≤ x.toInt64) && decide (x.toInt64 ≤ lN 2)) = op_in x 0 2 := by
    unfold op_in
    rw [Bool.eq_iff_iff, Bool.and_eq_true, nd_lle, nd_lle, nd_tl, lN_toInt (by decide), lN_toInt (by decide), decide_eq_true_iff]
    omega
  rw [e]
  first | with_reducible refine nd_if_neB hC (tgt := 17) dX7_restore_10 (by decide) (fun hc => ?_) (fun hc => ?_) | with_reducible refine nd_if_neN hC (tgt := 17) (by omega) dX7_restore_10 (by decide) (fun hc => ?_) (fun hc => ?_) | refine nd_if_ne hC (tgt := 17) dX7_restore_10 (by decide) (fun hc => ?_) (fun hc => ?_)
  · rw [if_pos hc] at hk
    obtain ⟨i, hi, rfl⟩ := op_in_nat hc
    rw [nI_cl (by omega)] at hk
    refine nd_aload_n hC dX7_restore_17 rfl rfl ?_
    refine mo_get_isImage hC hw rfl dX7_restore_18 ?_
    refine nd_iload_n hC dX7_restore_21 rfl ?_
    refine nd_zaloadN hC hw.isImage (by omega) (by decide) dX7_restore_22 ?_
    cases eP : sy_i S i with
    | none =>
      rw [eP] at hk
      rw [(hI.2.1 i (by omega)).1 eP]
      first | with_reducible refine nd_if_neB hC (tgt := 30) dX7_restore_23 (by decide) (fun hq => ?_) (fun hq => ?_) | with_reducible refine nd_if_neN hC (tgt := 30) (by omega) dX7_restore_23 (by decide) (fun hq => ?_) (fun hq => ?_) | refine nd_if_ne hC (tgt := 30) dX7_restore_23 (by decide) (fun hq => ?_) (fun hq => ?_)
      · exact absurd rfl hq
      · refine nd_iconst hC (v := nI 2) (by rfl) dX7_restore_26 ?_
        refine nd_goto hC (tgt := 31) dX7_restore_27 (by decide) ?_
        exact JE 2 (by omega) (by omega) hk X hC
    | some P =>
      rw [eP] at hk
      obtain ⟨e1, hkn⟩ := (hI.2.1 i (by omega)).2 P eP
      rw [e1]
      first | with_reducible refine nd_if_neB hC (tgt := 30) dX7_restore_23 (by decide) (fun hq => ?_) (fun hq => ?_) | with_reducible refine nd_if_neN hC (tgt := 30) (by omega) dX7_restore_23 (by decide) (fun hq => ?_) (fun hq => ?_) | refine nd_if_ne hC (tgt := 30) dX7_restore_23 (by decide) (fun hq => ?_) (fun hq => ?_)
      · refine nd_iconst hC (v := nI 0) (by rfl) dX7_restore_30 ?_
        refine mo_put_thrown hC hw rfl dX7_restore_31 (fun h hw => ?_)
        refine nd_aload_n hC dX7_restore_34 rfl rfl ?_
        refine mo_get_thrown hC hw rfl dX7_restore_35 ?_
        rw [va_up_s]
        refine nd_if_le hC (tgt := 42) dX7_restore_38 (by decide) (fun hq => ?_) (fun hq => ?_)
        · refine nd_iconst hC (v := nI 0) (by rfl) dX7_restore_42 ?_
          refine nd_istore_n hC dX7_restore_43 (Nat.le_of_ble_eq_true rfl) ?_
          have L : ∀ k, k ≤ 2912 → ∀ f2 h2, (∀ j, j < k → f2 j = A 2 (2912 * i + j)) → mo_W h0 (va_up A 0 f2) (va_up F 4 (nI 0)) B h2 → nd_W g mX7_restore d 0 0 K X 44 [some (.ref 101), some (.int (nI i)), some (.int (nI k))] [] h2 0 0 := by
            refine nd_for _ _ ?_ ?_
            · intro f2 h e1 hw
              refine nd_iload_n hC dX7_restore_44 rfl ?_
              refine nd_sipush hC (v := nI 2912) (by rfl) dX7_restore_45 ?_
              first | with_reducible refine nd_icmp_geN hC (tgt := 75) (by omega) (by omega) dX7_restore_48 (by decide) (fun hq => ?_) (fun hq => ?_) | refine nd_icmp_ge hC (tgt := 75) dX7_restore_48 (by decide) (fun hq => ?_) (fun hq => ?_)
              · refine nd_return hC rfl (by omega) (by omega) dX7_restore_75 ((hk _ _ _ h ((hI.th.kn (mo_kn_congr (hS.2.1 i (by omega) P eP) hkn e1)).t (by omega)) (va_up_s _ _ _) hw))
              · omega
            · intro k hk1 ih f2 h e1 hw
              refine nd_iload_n hC dX7_restore_44 rfl ?_
              refine nd_sipush hC (v := nI 2912) (by rfl) dX7_restore_45 ?_
              first | with_reducible refine nd_icmp_geN hC (tgt := 75) (by omega) (by omega) dX7_restore_48 (by decide) (fun hq => ?_) (fun hq => ?_) | refine nd_icmp_ge hC (tgt := 75) dX7_restore_48 (by decide) (fun hq => ?_) (fun hq => ?_)
              · omega
              · refine nd_aload_n hC dX7_restore_51 rfl rfl ?_
                refine mo_get_known hC hw rfl dX7_restore_52 ?_
                refine nd_iload_n hC dX7_restore_55 rfl ?_
                refine nd_aload_n hC dX7_restore_56 rfl rfl ?_
                refine mo_get_images hC hw rfl dX7_restore_57 ?_
                refine nd_sipush hC (v := nI 2912) (by rfl) dX7_restore_60 ?_
                refine nd_iload_n hC dX7_restore_63 rfl ?_
                first | with_reducible refine nd_imulN hC dX7_restore_64 ?_ | refine nd_imul hC dX7_restore_64 ?_
                refine nd_iload_n hC dX7_restore_65 rfl ?_
                first | with_reducible refine nd_iaddN hC dX7_restore_66 ?_ | refine nd_iadd hC dX7_restore_66 ?_
                refine nd_ialoadN hC hw.images (by omega) (by decide) dX7_restore_67 ?_
                refine mo_ast_known hC hw (by omega) dX7_restore_68 (fun h hw => ?_)
                try simp only [va_up_up, va_up_s] at hw
                first | with_reducible refine nd_iincN hC dX7_restore_69 rfl (Nat.le_of_ble_eq_true rfl) ?_ | refine nd_iinc hC dX7_restore_69 rfl rfl (Nat.le_of_ble_eq_true rfl) ?_
                refine nd_goto hC (tgt := 44) dX7_restore_72 (by decide) ?_
                refine ih _ h (fun j hj => ?_) hw
                by_cases e : j = k
                · subst e; rw [upd_s]; rfl
                · rw [upd_n (by omega)]; exact e1 j (by omega)
          exact L 0 (Nat.zero_le _) (A 0) h (fun i hi => absurd hi (Nat.not_lt_zero _)) (by rw [va_up_id]; exact hw)
        · exact absurd hq (by decide)
      · exact absurd hq (by decide)
  · rw [if_neg (by rw [hc]; decide)] at hk
    refine nd_iconst hC (v := nI 1) (by rfl) dX7_restore_13 ?_
    refine nd_goto hC (tgt := 31) dX7_restore_14 (by decide) ?_
    exact JE 1 (by omega) (by omega) hk X hC
theorem mo_I.fe {tt : Nat} {S : sy_S} {f5 : Nat → Int32} {xs : List Nat} (hI : mo_I tt S A F B) (e5 : ∀ i, i < xs.length → f5 i = nI (xs.getD i 0)) : mo_I tt (S.1, S.2.1, S.2.2.1, xs, S.2.2.2.2) (va_up A 5 f5) (va_up F 6 (nI xs.length)) B := by
  obtain ⟨h1, h2, h3, h4, h5, h6⟩ := hI
  exact ⟨h1, h2, h3, va_up_s _ _ _, e5, h6⟩
theorem mp_feed (hg : nd_OK g) (a b c dd e : Int32) : mp_ok g h0 mX7_feed d [.int a, .int b, .int c, .int dd, .int e] (mp_i (op_feed a b c dd e)) := by
  intro tt S A F B h K ht hI hS hw hk
  have h900 : (sy_b S).length ≤ 900 := hS.2.2.2.1
  have e6 : F 6 = nI (sy_b S).length := hI.2.2.2.1
  unfold mp_i op_feed at hk
  refine nd_enter hg (by decide) rfl (Nat.le_of_ble_eq_true rfl) (fun X hC => ?_)
  refine nd_aload_n hC dX7_feed_0 rfl rfl ?_
  refine nd_iconst hC (v := nI 0) (by rfl) dX7_feed_1 ?_
  refine mo_put_thrown hC hw rfl dX7_feed_2 (fun h hw => ?_)
  refine nd_aload_n hC dX7_feed_5 rfl rfl ?_
  refine mo_get_taped hC hw rfl dX7_feed_6 ?_
  rw [show (va_up F 4 (nI 0)) 6 = nI (sy_b S).length from e6]
  refine nd_bipush hC (v := nI 20) (by rfl) dX7_feed_9 ?_
  first | with_reducible refine nd_iaddN hC dX7_feed_11 ?_ | refine nd_iadd hC dX7_feed_11 ?_
  refine nd_sipush hC (v := nI 900) (by rfl) dX7_feed_12 ?_
  first | with_reducible refine nd_icmp_leN hC (tgt := 20) (by omega) (by omega) dX7_feed_15 (by decide) (fun hc => ?_) (fun hc => ?_) | refine nd_icmp_le hC (tgt := 20) dX7_feed_15 (by decide) (fun hc => ?_) (fun hc => ?_)
  · rw [if_neg (by omega)] at hk
    refine nd_iconst hC (v := nI 0) (by rfl) dX7_feed_20 ?_
    refine nd_istore hC dX7_feed_21 (Nat.le_of_ble_eq_true rfl) ?_
    have L : ∀ k, k ≤ 20 → ∀ (f5 : Nat → Int32) h lv7, (∀ i, i < (sy_b S).length → f5 i = A 5 i) → (∀ j, j < k → f5 ((sy_b S).length + j) = nI (fe_at a b c dd e j)) → mo_W h0 (va_up A 5 f5) (va_up (va_up F 4 (nI 0)) 6 (nI ((sy_b S).length + k))) B h → nd_W g mX7_feed d 0 0 K X 23 [some (.ref 101), some (.int a), some (.int b), some (.int c), some (.int dd), some (.int e), some (.int (nI k)), lv7] [] h 0 0 := by
      refine nd_for _ _ ?_ ?_
      · intro f5 h lv7 o5 e5 hw
        refine nd_iload hC dX7_feed_23 rfl ?_
        refine nd_bipush hC (v := nI 20) (by rfl) dX7_feed_25 ?_
        first | with_reducible refine nd_icmp_geN hC (tgt := 120) (by omega) (by omega) dX7_feed_27 (by decide) (fun hq => ?_) (fun hq => ?_) | refine nd_icmp_ge hC (tgt := 120) dX7_feed_27 (by decide) (fun hq => ?_) (fun hq => ?_)
        · refine nd_aload_n hC dX7_feed_120 rfl rfl ?_
          refine mo_get_taped hC hw rfl dX7_feed_121 ?_
          rw [va_up_s]
          have hxl : (sy_b S ++ (List.range 20).map (fe_at a b c dd e)).length = (sy_b S).length + 20 := by simp
          have hI2 := (hI.th (v := nI 0)).fe (f5 := f5) (xs := sy_b S ++ (List.range 20).map (fe_at a b c dd e)) (fun i hi => by
            rw [hxl] at hi
            by_cases q : i < (sy_b S).length
            · rw [o5 i q, List.getD_eq_getElem?_getD, List.getElem?_append_left q, ← List.getD_eq_getElem?_getD]; exact hI.2.2.2.2.1 i q
            · have := e5 (i - (sy_b S).length) (by omega)
              rw [show (sy_b S).length + (i - (sy_b S).length) = i by omega] at this
              rw [this, List.getD_eq_getElem?_getD, List.getElem?_append_right (by omega), List.getElem?_map, List.getElem?_range (by omega)]; rfl)
          rw [hxl] at hI2
          refine nd_ireturn hC rfl (by first | rfl | exact nd_b_nar _) (by omega) (by omega) dX7_feed_124 ((hk _ _ _ h (hI2.t (by omega)) rfl hw))
        · omega
      · intro k hk1 ih f5 h lv7 o5 e5 hw
        have J : ∀ w : Int32, nI (fe_b w (k % 4)) = nI (fe_at a b c dd e k) → nd_W g mX7_feed d 0 0 K X 76 [some (.ref 101), some (.int a), some (.int b), some (.int c), some (.int dd), some (.int e), some (.int (nI k)), lv7] [.int w] h 0 0 := by
          intro w hwk
          have e3 : nI k &&& nI 3 = nI (k % 4) := by
            rw [nx_and, show (3 : Nat) = 2 ^ 2 - 1 from rfl, Nat.and_two_pow_sub_one_eq_mod]
          refine nd_istore hC dX7_feed_76 (Nat.le_of_ble_eq_true rfl) ?_
          refine nd_aload_n hC dX7_feed_78 rfl rfl ?_
          refine mo_get_tape hC hw rfl dX7_feed_79 ?_
          refine nd_aload_n hC dX7_feed_82 rfl rfl ?_
          refine mo_get_taped hC hw rfl dX7_feed_83 ?_
          rw [va_up_s]
          refine nd_iload hC dX7_feed_86 rfl ?_
          refine nd_bipush hC (v := nI 24) (by rfl) dX7_feed_88 ?_
          refine nd_bipush hC (v := nI 8) (by rfl) dX7_feed_90 ?_
          refine nd_iload hC dX7_feed_92 rfl ?_
          refine nd_iconst hC (v := nI 3) (by rfl) dX7_feed_94 ?_
          refine nd_iand hC dX7_feed_95 ?_
          rw [e3]
          first | with_reducible refine nd_imulN hC dX7_feed_96 ?_ | refine nd_imul hC dX7_feed_96 ?_
          first | with_reducible refine nd_isubN hC (by omega) dX7_feed_97 ?_ | refine nd_isub hC dX7_feed_97 ?_
          refine nd_iushr hC dX7_feed_98 ?_
          refine nd_sipush hC (v := nI 255) (by rfl) dX7_feed_99 ?_
          refine nd_iand hC dX7_feed_102 ?_
          rw [fe_ushr (show k % 4 < 4 by omega), hwk]
          refine mo_ast_tape hC hw (by omega) dX7_feed_103 (fun h hw => ?_)
          try simp only [va_up_up, va_up_s] at hw
          refine nd_aload_n hC dX7_feed_104 rfl rfl ?_
          refine nd_dup hC (by rfl) dX7_feed_105 ?_
          refine mo_get_taped hC hw rfl dX7_feed_106 ?_
          rw [va_up_s]
          refine nd_iconst hC (v := nI 1) (by rfl) dX7_feed_109 ?_
          first | with_reducible refine nd_iaddN hC dX7_feed_110 ?_ | refine nd_iadd hC dX7_feed_110 ?_
          refine mo_put_taped hC hw rfl dX7_feed_111 (fun h hw => ?_)
          rw [va_up_up] at hw
          first | with_reducible refine nd_iincN hC dX7_feed_114 rfl (Nat.le_of_ble_eq_true rfl) ?_ | refine nd_iinc hC dX7_feed_114 rfl rfl (Nat.le_of_ble_eq_true rfl) ?_
          refine nd_goto hC (tgt := 23) dX7_feed_117 (by decide) ?_
          refine ih _ h _ (fun i hi => ?_) (fun j hj => ?_) hw
          · rw [upd_n (by omega)]; exact o5 i hi
          · by_cases q : j = k
            · subst q; rw [upd_s]
            · rw [upd_n (by omega)]; exact e5 j (by omega)
        refine nd_iload hC dX7_feed_23 rfl ?_
        refine nd_bipush hC (v := nI 20) (by rfl) dX7_feed_25 ?_
        first | with_reducible refine nd_icmp_geN hC (tgt := 120) (by omega) (by omega) dX7_feed_27 (by decide) (fun hq => ?_) (fun hq => ?_) | refine nd_icmp_ge hC (tgt := 120) dX7_feed_27 (by decide) (fun hq => ?_) (fun hq => ?_)
        · omega
        · refine nd_iload hC dX7_feed_30 rfl ?_
          refine nd_iconst hC (v := nI 4) (by rfl) dX7_feed_32 ?_
          first | with_reducible refine nd_icmp_geN hC (tgt := 40) (by omega) (by omega) dX7_feed_33 (by decide) (fun h4 => ?_) (fun h4 => ?_) | refine nd_icmp_ge hC (tgt := 40) dX7_feed_33 (by decide) (fun h4 => ?_) (fun h4 => ?_)
          · refine nd_iload hC dX7_feed_40 rfl ?_
            refine nd_bipush hC (v := nI 8) (by rfl) dX7_feed_42 ?_
            first | with_reducible refine nd_icmp_geN hC (tgt := 51) (by omega) (by omega) dX7_feed_44 (by decide) (fun h8 => ?_) (fun h8 => ?_) | refine nd_icmp_ge hC (tgt := 51) dX7_feed_44 (by decide) (fun h8 => ?_) (fun h8 => ?_)
            · refine nd_iload hC dX7_feed_51 rfl ?_
              refine nd_bipush hC (v := nI 12) (by rfl) dX7_feed_53 ?_
              first | with_reducible refine nd_icmp_geN hC (tgt := 62) (by omega) (by omega) dX7_feed_55 (by decide) (fun h12 => ?_) (fun h12 => ?_) | refine nd_icmp_ge hC (tgt := 62) dX7_feed_55 (by decide) (fun h12 => ?_) (fun h12 => ?_)
              · refine nd_iload hC dX7_feed_62 rfl ?_
                refine nd_bipush hC (v := nI 16) (by rfl) dX7_feed_64 ?_
                first | with_reducible refine nd_icmp_geN hC (tgt := 74) (by omega) (by omega) dX7_feed_66 (by decide) (fun h16 => ?_) (fun h16 => ?_) | refine nd_icmp_ge hC (tgt := 74) dX7_feed_66 (by decide) (fun h16 => ?_) (fun h16 => ?_)
                · refine nd_iload hC dX7_feed_74 rfl ?_
                  exact J e (by unfold fe_at; rw [if_neg (by omega), if_neg (by omega), if_neg (by omega), if_neg (by omega)])
                · refine nd_iload hC dX7_feed_69 rfl ?_
                  refine nd_goto hC (tgt := 76) dX7_feed_71 (by decide) ?_
                  exact J dd (by unfold fe_at; rw [if_neg (by omega), if_neg (by omega), if_neg (by omega), if_pos (by omega)])
              · refine nd_iload_n hC dX7_feed_58 rfl ?_
                refine nd_goto hC (tgt := 76) dX7_feed_59 (by decide) ?_
                exact J c (by unfold fe_at; rw [if_neg (by omega), if_neg (by omega), if_pos (by omega)])
            · refine nd_iload_n hC dX7_feed_47 rfl ?_
              refine nd_goto hC (tgt := 76) dX7_feed_48 (by decide) ?_
              exact J b (by unfold fe_at; rw [if_neg (by omega), if_pos (by omega)])
          · refine nd_iload_n hC dX7_feed_36 rfl ?_
            refine nd_goto hC (tgt := 76) dX7_feed_37 (by decide) ?_
            exact J a (by unfold fe_at; rw [if_pos (by omega)])
    exact L 0 (Nat.zero_le _) (A 5) h _ (fun _ _ => rfl) (fun j hj => absurd hj (Nat.not_lt_zero _)) (by rw [va_up_id, Nat.add_zero, show nI (sy_b S).length = (va_up F 4 (nI 0)) 6 from e6.symm, va_up_id]; exact hw)
  · rw [if_pos (by omega)] at hk
    refine nd_iconst hC (v := -1) (by rfl) dX7_feed_18 ?_
    refine nd_ireturn hC rfl (by first | rfl | exact nd_b_nar _) (by omega) (by omega) dX7_feed_19 ((hk _ _ _ h (hI.th.t (by omega)) (va_up_s _ _ _) hw))
end MO37

