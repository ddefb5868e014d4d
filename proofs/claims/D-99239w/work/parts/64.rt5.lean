set_option maxRecDepth 100000
section RT5
variable {g : nd_G} {d : Nat} {K : nd_K} {h h0 : nd_H} {A : Nat → Nat → Int32} {F : Nat → Int32} {B : Nat → Nat → Int64} {T : List Nat} {dp lm la : Nat}
theorem sr_unitE (hg : nd_OK g) (hw : mo_W h0 A F B h) {e : Nat × Nat} (hZ : tx_Z T dp (.inr e) F) (hk : K (.inl none) h) : nd_M g mX7_readUnit d 0 0 [.ref 101] h K := by
  obtain ⟨z1, z2, z3, z4⟩ := hZ
  refine nd_enter hg (by decide) rfl (Nat.le_of_ble_eq_true rfl) (fun X hC => ?_)
  refine nd_aload_n hC dX7_readUnit_0 rfl rfl ?_
  refine mo_get_bad hC hw rfl dX7_readUnit_1 ?_
  refine nd_v_eq (congrArg Value.int (z1)) ?_
  first | with_reducible refine nd_if_eqB hC (tgt := 8) dX7_readUnit_4 (by decide) (fun hc => ?_) (fun hc => ?_) | with_reducible refine nd_if_eqN hC (tgt := 8) (by omega) dX7_readUnit_4 (by decide) (fun hc => ?_) (fun hc => ?_) | refine nd_if_eq hC (tgt := 8) dX7_readUnit_4 (by decide) (fun hc => ?_) (fun hc => ?_)
  · omega
  · refine nd_return hC rfl (by omega) (by omega) dX7_readUnit_7 (hk)
theorem sr_bothE (hg : nd_OK g) (hd : 6 ≤ d) (hw : mo_W h0 A F B h) (htp : tx_tp A T) {e : Nat × Nat} (hZ : tx_Z T dp (.inr e) F) (hk : ∀ F2 h2, mo_W h0 A F2 B h2 → tx_y F F2 → tx_Z T dp (.inr e) F2 → K (.inl none) h2) : nd_M g mX7_readBoth d 0 0 [.ref 101] h K := by
  refine nd_enter hg (by decide) rfl (Nat.le_of_ble_eq_true rfl) (fun X hC => ?_)
  refine nd_aload_n hC dX7_readBoth_0 rfl rfl ?_
  refine mo_callV (As := []) (d2 := d - 1) hC hw rfl lkX7_165 lyX7_165 (Nat.le_of_ble_eq_true rfl) (by omega) rfl (by exact Nat.le_of_ble_eq_true rfl) (Nat.zero_le _) (Nat.zero_le _) dX7_readBoth_1 rfl ((sr_unitE hg hw hZ ?_))
  refine nd_aload_n hC dX7_readBoth_4 rfl rfl ?_
  refine nd_ldcS hC (i := 30) (r := ("NapkinDeedsModel", 168, "and", [97, 110, 100])) rfl rfl dX7_readBoth_5 ?_
  refine mo_callV (As := [_]) (d2 := d - 1) hC hw rfl lkX7_142 lyX7_142 (Nat.le_of_ble_eq_true rfl) (by omega) rfl (by exact Nat.le_of_ble_eq_true rfl) (Nat.zero_le _) (Nat.zero_le _) dX7_readBoth_7 rfl ((sr_took (rr := ("NapkinDeedsModel", 168, "and", [97, 110, 100])) (r := .inr e) hg (by omega) hw htp trivial hZ rfl (fun F5 h5 hw y5 Z5 => ?_)))
  first | with_reducible refine nd_if_eqB hC (tgt := 26) dX7_readBoth_10 (by decide) (fun hc => ?_) (fun hc => ?_) | with_reducible refine nd_if_eqN hC (tgt := 26) (by omega) dX7_readBoth_10 (by decide) (fun hc => ?_) (fun hc => ?_) | refine nd_if_eq hC (tgt := 26) dX7_readBoth_10 (by decide) (fun hc => ?_) (fun hc => ?_)
  · refine nd_return hC rfl (by omega) (by omega) dX7_readBoth_26 ((hk F5 h5 hw y5 Z5))
  · exact absurd (show false = true from hc) (by decide)
theorem sr_truthE (hg : nd_OK g) (hd : 7 ≤ d) (hw : mo_W h0 A F B h) (htp : tx_tp A T) {e : Nat × Nat} (hZ : tx_Z T dp (.inr e) F) (hk : ∀ F2 h2, mo_W h0 A F2 B h2 → tx_y F F2 → tx_Z T dp (.inr e) F2 → K (.inl none) h2) : nd_M g mX7_readTruth d 0 0 [.ref 101] h K := by
  refine nd_enter hg (by decide) rfl (Nat.le_of_ble_eq_true rfl) (fun X hC => ?_)
  refine nd_aload_n hC dX7_readTruth_0 rfl rfl ?_
  refine mo_callV (As := []) (d2 := d - 1) hC hw rfl lkX7_157 lyX7_157 (Nat.le_of_ble_eq_true rfl) (by omega) rfl (by exact Nat.le_of_ble_eq_true rfl) (Nat.zero_le _) (Nat.zero_le _) dX7_readTruth_1 rfl ((sr_bothE hg (by omega) hw htp hZ (fun F2 h2 hw y2 Z2 => ?_)))
  refine nd_aload_n hC dX7_readTruth_4 rfl rfl ?_
  refine nd_ldcS hC (i := 31) (r := ("NapkinDeedsModel", 160, "or", [111, 114])) rfl rfl dX7_readTruth_5 ?_
  refine mo_callV (As := [_]) (d2 := d - 1) hC hw rfl lkX7_142 lyX7_142 (Nat.le_of_ble_eq_true rfl) (by omega) rfl (by exact Nat.le_of_ble_eq_true rfl) (Nat.zero_le _) (Nat.zero_le _) dX7_readTruth_7 rfl ((sr_took (rr := ("NapkinDeedsModel", 160, "or", [111, 114])) (r := .inr e) hg (by omega) hw htp trivial Z2 rfl (fun F5 h5 hw y5 Z5 => ?_)))
  first | with_reducible refine nd_if_eqB hC (tgt := 26) dX7_readTruth_10 (by decide) (fun hc => ?_) (fun hc => ?_) | with_reducible refine nd_if_eqN hC (tgt := 26) (by omega) dX7_readTruth_10 (by decide) (fun hc => ?_) (fun hc => ?_) | refine nd_if_eq hC (tgt := 26) dX7_readTruth_10 (by decide) (fun hc => ?_) (fun hc => ?_)
  · refine nd_return hC rfl (by omega) (by omega) dX7_readTruth_26 ((hk F5 h5 hw (y2.trans y5) Z5))
  · exact absurd (show false = true from hc) (by decide)
theorem sr_unit (hg : nd_OK g) (hd : 9 ≤ d) (hlo : tx_lo lm la) (hT : T.length ≤ 900) {k : Nat} (hdp : dp + k = 6) (hsum : tx_C g h0 T mX7_readSum (d - 1) dp lm la (tx_sum T (tx_m lm) k)) (hsubU : ∀ k2, k = k2 + 1 → tx_C g h0 T mX7_readUnit (d - 1) (dp + 1) lm la (tx_unit T (tx_m lm) k2)) (hsubT : ∀ k2, k = k2 + 1 → tx_C g h0 T mX7_readTruth (d - 1) (dp + 1) lm la (tx_truth T (tx_m lm) k2)) : tx_C g h0 T mX7_readUnit d dp lm la (tx_unit T (tx_m lm) k) := by
  intro r f0 A F B h K htp hw hQ hb hk
  cases r with
  | inr e => exact sr_unitE hg hw hQ.1 (hk A F h hw (fun _ _ => rfl) tx_u.rfl hQ)
  | inl x =>
    have hZ := hQ.1
    obtain ⟨h17, h18, hT1⟩ := hQ.2 x rfl
    have f12 : F 12 = nI 0 := hZ.2.2.2.2.2.1
    have hb1 : 0 + x.1.length ≤ x.2 ∧ x.2 ≤ T.length := hb
    have hin : x.2 ≤ T.length := hb1.2
    have hkl := tx_k_lt T x.2
    rw [tx_unit_eq] at hk
    refine nd_enter hg (by decide) rfl (Nat.le_of_ble_eq_true rfl) (fun X hC => ?_)
    have JE31 : ∀ (e : Nat × Nat) A4 F4 h4, mo_W h0 A4 F4 B h4 → (∀ k, k ≠ 1 → A4 k = A k) → tx_u F F4 → tx_Z T (dp + 1) (.inr e) F4 → tx_bind (.inl x) (tx_unW T (tx_sum T (tx_m lm) k) (tx_dn (tx_unit T (tx_m lm)) k)) = .inr e → nd_W g mX7_readUnit d 0 0 K X 31 [some (.ref 101), none] [] h4 0 0 := by
      intro e A4 F4 h4 hw frA frF hZ4 er
      rw [er] at hk
      refine nd_aload_n hC dX7_readUnit_31 rfl rfl ?_
      refine nd_dup hC (by rfl) dX7_readUnit_32 ?_
      refine mo_get_deep hC hw rfl dX7_readUnit_33 ?_
      refine nd_iconst hC (v := nI 1) (by rfl) dX7_readUnit_36 ?_
      first | with_reducible refine nd_isubN hC (by omega) dX7_readUnit_37 ?_ | refine nd_isub hC dX7_readUnit_37 ?_
      refine mo_put_deep hC hw rfl dX7_readUnit_38 (fun h hw => ?_)
      refine nd_goto hC (tgt := 155) dX7_readUnit_41 (by decide) ?_
      refine nd_return hC rfl (by omega) (by omega) dX7_readUnit_155 ((hk A4 _ h hw frA (frF.up (by omega)) (tx_Q.e (dp2 := dp + 1) hZ4)))
    have JE67 : ∀ (e : Nat × Nat) A4 F4 h4, mo_W h0 A4 F4 B h4 → (∀ k, k ≠ 1 → A4 k = A k) → tx_u F F4 → tx_Z T (dp + 1) (.inr e) F4 → tx_bind (.inl x) (tx_unW T (tx_sum T (tx_m lm) k) (tx_dn (tx_unit T (tx_m lm)) k)) = .inr e → nd_W g mX7_readUnit d 0 0 K X 67 [some (.ref 101), none] [] h4 0 0 := by
      intro e A4 F4 h4 hw frA frF hZ4 er
      rw [er] at hk
      refine nd_aload_n hC dX7_readUnit_67 rfl rfl ?_
      refine nd_dup hC (by rfl) dX7_readUnit_68 ?_
      refine mo_get_deep hC hw rfl dX7_readUnit_69 ?_
      refine nd_iconst hC (v := nI 1) (by rfl) dX7_readUnit_72 ?_
      first | with_reducible refine nd_isubN hC (by omega) dX7_readUnit_73 ?_ | refine nd_isub hC dX7_readUnit_73 ?_
      refine mo_put_deep hC hw rfl dX7_readUnit_74 (fun h hw => ?_)
      refine nd_goto hC (tgt := 155) dX7_readUnit_77 (by decide) ?_
      refine nd_return hC rfl (by omega) (by omega) dX7_readUnit_155 ((hk A4 _ h hw frA (frF.up (by omega)) (tx_Q.e (dp2 := dp + 1) hZ4)))
    have JE112 : ∀ tk (e : Nat × Nat) A4 F4 h4, mo_W h0 A4 F4 B h4 → (∀ k, k ≠ 1 → A4 k = A k) → tx_u F F4 → tx_Z T dp (.inr e) F4 → tx_bind (.inl x) (tx_unW T (tx_sum T (tx_m lm) k) (tx_dn (tx_unit T (tx_m lm)) k)) = .inr e → nd_W g mX7_readUnit d 0 0 K X 112 [some (.ref 101), some (.int tk)] [] h4 0 0 := by
      intro tk e A4 F4 h4 hw frA frF hZ4 er
      rw [er] at hk
      have z1 := hZ4.1
      have z3 := hZ4.2.2
      have J152 : ∀ c, nd_W g mX7_readUnit d 0 0 K X 152 [some (.ref 101), some (.int tk)] [.int c, .ref 101] h4 0 0 := by
        intro c
        refine mo_callV (As := [_]) (d2 := d - 1) hC hw rfl lkX7_162 lyX7_162 (Nat.le_of_ble_eq_true rfl) (by omega) rfl (by exact Nat.le_of_ble_eq_true rfl) (Nat.zero_le _) (Nat.zero_le _) dX7_readUnit_152 rfl ((sr_layE hg hw hZ4 ?_))
        refine nd_return hC rfl (by omega) (by omega) dX7_readUnit_155 ((hk A4 F4 h4 hw frA frF (tx_Q.e hZ4)))
      refine nd_aload_n hC dX7_readUnit_112 rfl rfl ?_
      refine mo_get_bad hC hw rfl dX7_readUnit_113 ?_
      refine nd_v_eq (congrArg Value.int (z1)) ?_
      first | with_reducible refine nd_if_neB hC (tgt := 123) dX7_readUnit_116 (by decide) (fun hq => ?_) (fun hq => ?_) | with_reducible refine nd_if_neN hC (tgt := 123) (by omega) dX7_readUnit_116 (by decide) (fun hq => ?_) (fun hq => ?_) | refine nd_if_ne hC (tgt := 123) dX7_readUnit_116 (by decide) (fun hq => ?_) (fun hq => ?_)
      · refine nd_aload_n hC dX7_readUnit_123 rfl rfl ?_
        refine mo_callV (As := []) (d2 := d - 1) hC hw rfl lkX7_181 lyX7_181 (Nat.le_of_ble_eq_true rfl) (by omega) rfl (by exact Nat.le_of_ble_eq_true rfl) (Nat.zero_le _) (Nat.zero_le _) dX7_readUnit_124 rfl ((sr_sumE hg (by omega) hw hZ4 ?_))
        refine nd_aload_n hC dX7_readUnit_127 rfl rfl ?_
        refine nd_iload_n hC dX7_readUnit_128 rfl ?_
        refine nd_bipush hC (v := nI 61) (by rfl) dX7_readUnit_129 ?_
        first | with_reducible refine nd_icmp_neN hC (tgt := 139) (by omega) (by omega) dX7_readUnit_131 (by decide) (fun q1 => ?_) (fun q1 => ?_) | refine nd_icmp_ne hC (tgt := 139) dX7_readUnit_131 (by decide) (fun q1 => ?_) (fun q1 => ?_)
        · refine nd_iload_n hC dX7_readUnit_139 rfl ?_
          refine nd_bipush hC (v := nI 60) (by rfl) dX7_readUnit_140 ?_
          first | with_reducible refine nd_icmp_neN hC (tgt := 150) (by omega) (by omega) dX7_readUnit_142 (by decide) (fun q2 => ?_) (fun q2 => ?_) | refine nd_icmp_ne hC (tgt := 150) dX7_readUnit_142 (by decide) (fun q2 => ?_) (fun q2 => ?_)
          · refine nd_bipush hC (v := nI 15) (by rfl) dX7_readUnit_150 ?_
            exact J152 _
          · refine nd_bipush hC (v := nI 14) (by rfl) dX7_readUnit_145 ?_
            refine nd_goto hC (tgt := 152) dX7_readUnit_147 (by decide) ?_
            exact J152 _
        · refine nd_bipush hC (v := nI 13) (by rfl) dX7_readUnit_134 ?_
          refine nd_goto hC (tgt := 152) dX7_readUnit_136 (by decide) ?_
          exact J152 _
      · omega
    refine nd_aload_n hC dX7_readUnit_0 rfl rfl ?_
    refine mo_get_bad hC hw rfl dX7_readUnit_1 ?_
    refine nd_v_eq (congrArg Value.int (f12)) ?_
    first | with_reducible refine nd_if_eqB hC (tgt := 8) dX7_readUnit_4 (by decide) (fun hc => ?_) (fun hc => ?_) | with_reducible refine nd_if_eqN hC (tgt := 8) (by omega) dX7_readUnit_4 (by decide) (fun hc => ?_) (fun hc => ?_) | refine nd_if_eq hC (tgt := 8) dX7_readUnit_4 (by decide) (fun hc => ?_) (fun hc => ?_)
    · refine nd_aload_n hC dX7_readUnit_8 rfl rfl ?_
      refine nd_ldcS hC (i := 29) (r := ("NapkinDeedsModel", 170, "not", [110, 111, 116])) rfl rfl dX7_readUnit_9 ?_
      refine mo_callV (As := [_]) (d2 := d - 1) hC hw rfl lkX7_127 lyX7_127 (Nat.le_of_ble_eq_true rfl) (by omega) rfl (by exact Nat.le_of_ble_eq_true rfl) (Nat.zero_le _) (Nat.zero_le _) dX7_readUnit_11 rfl ((sr_isWord (rr := ("NapkinDeedsModel", 170, "not", [110, 111, 116])) (r := .inl x) hg (by omega) hw htp hin hZ rfl ?_))
      rw [show tx_isw T [110, 111, 116] (.inl x) = tx_w T x.2 tx_not from rfl]
      first | with_reducible refine nd_if_eqB hC (tgt := 44) dX7_readUnit_14 (by decide) (fun hno => ?_) (fun hno => ?_) | with_reducible refine nd_if_eqN hC (tgt := 44) (by omega) dX7_readUnit_14 (by decide) (fun hno => ?_) (fun hno => ?_) | refine nd_if_eq hC (tgt := 44) dX7_readUnit_14 (by decide) (fun hno => ?_) (fun hno => ?_)
      · have hno1 : ¬ tx_w T x.2 tx_not = true := by rw [hno]; decide
        refine nd_aload_n hC dX7_readUnit_44 rfl rfl ?_
        refine nd_bipush hC (v := nI 91) (by rfl) dX7_readUnit_45 ?_
        refine mo_callV (As := [_]) (d2 := d - 1) hC hw rfl lkX7_175 lyX7_175 (Nat.le_of_ble_eq_true rfl) (by omega) rfl (by exact Nat.le_of_ble_eq_true rfl) (Nat.zero_le _) (Nat.zero_le _) dX7_readUnit_47 rfl ((sr_isSign hg hw hZ (by omega) ?_))
        rw [show tx_is T 91 (.inl x) = decide (tx_k T x.2 = 91) from rfl]
        first | with_reducible refine nd_if_eqB hC (tgt := 80) dX7_readUnit_50 (by decide) (fun hs => ?_) (fun hs => ?_) | with_reducible refine nd_if_eqN hC (tgt := 80) (by omega) dX7_readUnit_50 (by decide) (fun hs => ?_) (fun hs => ?_) | refine nd_if_eq hC (tgt := 80) dX7_readUnit_50 (by decide) (fun hs => ?_) (fun hs => ?_)
        · have hs := of_decide_eq_false hs
          have eR : tx_bind (.inl x) (tx_unW T (tx_sum T (tx_m lm) k) (tx_dn (tx_unit T (tx_m lm)) k)) = tx_bind (tx_bind (.inl x) (tx_sum T (tx_m lm) k)) (tx_cp T (tx_sum T (tx_m lm) k)) := by
            rw [tx_bind_g (f2 := fun p => tx_bind (tx_sum T (tx_m lm) k p) (tx_cp T (tx_sum T (tx_m lm) k))) (by unfold tx_unW; rw [if_neg hno1, if_neg hs])]
            exact (tx_bind_a ..).symm
          have hb3 := tx_gd_bind hb (tx_G_sum T (tx_m lm) k)
          refine nd_aload_n hC dX7_readUnit_80 rfl rfl ?_
          refine mo_callV (As := []) (d2 := d - 1) hC hw rfl lkX7_181 lyX7_181 (Nat.le_of_ble_eq_true rfl) (by omega) rfl (by exact Nat.le_of_ble_eq_true rfl) (Nat.zero_le _) (Nat.zero_le _) dX7_readUnit_81 rfl ((hsum _ f0 A F B h _ htp hw hQ hb (fun A4 F4 h4 hw frA frF hQ4 => ?_)))
          cases e5 : tx_bind (.inl x) (tx_sum T (tx_m lm) k) with
          | inr e =>
            rw [e5] at hQ4 eR
            refine nd_aload_n hC dX7_readUnit_84 rfl rfl ?_
            refine mo_get_token hC hw rfl dX7_readUnit_85 ?_
            refine nd_istore_n hC dX7_readUnit_88 (Nat.le_of_ble_eq_true rfl) ?_
            refine nd_iload_n hC dX7_readUnit_89 rfl ?_
            refine nd_bipush hC (v := nI 61) (by rfl) dX7_readUnit_90 ?_
            first | with_reducible refine nd_icmp_eqN hC (tgt := 112) (by omega) (by omega) dX7_readUnit_92 (by decide) (fun q1 => ?_) (fun q1 => ?_) | refine nd_icmp_eq hC (tgt := 112) dX7_readUnit_92 (by decide) (fun q1 => ?_) (fun q1 => ?_)
            · exact JE112 _ e A4 F4 h4 hw frA frF hQ4.1 eR
            · refine nd_iload_n hC dX7_readUnit_95 rfl ?_
              refine nd_bipush hC (v := nI 60) (by rfl) dX7_readUnit_96 ?_
              first | with_reducible refine nd_icmp_eqN hC (tgt := 112) (by omega) (by omega) dX7_readUnit_98 (by decide) (fun q2 => ?_) (fun q2 => ?_) | refine nd_icmp_eq hC (tgt := 112) dX7_readUnit_98 (by decide) (fun q2 => ?_) (fun q2 => ?_)
              · exact JE112 _ e A4 F4 h4 hw frA frF hQ4.1 eR
              · refine nd_iload_n hC dX7_readUnit_101 rfl ?_
                refine nd_bipush hC (v := nI 62) (by rfl) dX7_readUnit_102 ?_
                first | with_reducible refine nd_icmp_eqN hC (tgt := 112) (by omega) (by omega) dX7_readUnit_104 (by decide) (fun q3 => ?_) (fun q3 => ?_) | refine nd_icmp_eq hC (tgt := 112) dX7_readUnit_104 (by decide) (fun q3 => ?_) (fun q3 => ?_)
                · exact JE112 _ e A4 F4 h4 hw frA frF hQ4.1 eR
                · refine nd_aload_n hC dX7_readUnit_107 rfl rfl ?_
                  refine nd_iconst hC (v := nI 2) (by rfl) dX7_readUnit_108 ?_
                  refine mo_callV (As := [_]) (d2 := d - 1) hC hw rfl lkX7_134 lyX7_134 (Nat.le_of_ble_eq_true rfl) (by omega) rfl (by exact Nat.le_of_ble_eq_true rfl) (Nat.zero_le _) (Nat.zero_le _) dX7_readUnit_109 rfl ((sr_blames hg hw hQ4.1 (by omega) (by omega) (fun F5 h5 hw y5 Z5 => ?_)))
                  exact JE112 _ e A4 F5 h5 hw frA (frF.trans y5.u) Z5 eR
          | inl y =>
            rw [e5] at hQ4 hb3 eR
            have hb3 : 0 + y.1.length ≤ y.2 ∧ y.2 ≤ T.length := hb3
            have hkl2 := tx_k_lt T y.2
            obtain ⟨f7, f8, f9, f10, f11, g12, f16⟩ := id hQ4.1
            have J112 : ∀ c, tx_cmp (tx_k T y.2) = some c → (tx_k T y.2 = 61 ∧ c = 13 ∨ tx_k T y.2 = 60 ∧ c = 14 ∨ tx_k T y.2 = 62 ∧ c = 15) → nd_W g mX7_readUnit d 0 0 K X 112 [some (.ref 101), some (.int (nI (tx_k T y.2)))] [] h4 0 0 := by
              intro c hc5 hcc
              have hgt := tx_h_gt (T := T) (p := y.2) (by omega)
              have hbg := tx_b_ge T y.2
              have hhl := tx_h_le T hb3.2
              have eR2 : tx_bind (.inl y) (tx_cp T (tx_sum T (tx_m lm) k)) = tx_bind (tx_bind (.inl (y.1, tx_h T y.2)) (tx_sum T (tx_m lm) k)) (tx_lay c) := by
                rw [tx_bind_g (f2 := fun p => tx_bind (tx_bind (tx_on T p) (tx_sum T (tx_m lm) k)) (tx_lay c)) (by unfold tx_cp; rw [hc5]), ← tx_bind_on]
                simp only [tx_bind_a]
              rw [eR, eR2] at hk
              refine nd_aload_n hC dX7_readUnit_112 rfl rfl ?_
              refine mo_get_bad hC hw rfl dX7_readUnit_113 ?_
              refine nd_v_eq (congrArg Value.int (g12)) ?_
              first | with_reducible refine nd_if_neB hC (tgt := 123) dX7_readUnit_116 (by decide) (fun hq => ?_) (fun hq => ?_) | with_reducible refine nd_if_neN hC (tgt := 123) (by omega) dX7_readUnit_116 (by decide) (fun hq => ?_) (fun hq => ?_) | refine nd_if_ne hC (tgt := 123) dX7_readUnit_116 (by decide) (fun hq => ?_) (fun hq => ?_)
              · exact absurd rfl hq
              · refine nd_aload_n hC dX7_readUnit_119 rfl rfl ?_
                refine mo_callV (As := []) (d2 := d - 1) hC hw rfl lkX7_131 lyX7_131 (Nat.le_of_ble_eq_true rfl) (by omega) rfl (by exact Nat.le_of_ble_eq_true rfl) (Nat.zero_le _) (Nat.zero_le _) dX7_readUnit_120 rfl ((sr_on hg (by omega) hw (htp.k frA) hhl f7 f8 g12 f16 (fun F5 h5 hw fr5 hF5 => ?_)))
                refine nd_aload_n hC dX7_readUnit_123 rfl rfl ?_
                refine mo_callV (As := []) (d2 := d - 1) hC hw rfl lkX7_181 lyX7_181 (Nat.le_of_ble_eq_true rfl) (by omega) rfl (by exact Nat.le_of_ble_eq_true rfl) (Nat.zero_le _) (Nat.zero_le _) dX7_readUnit_124 rfl ((hsum (.inl (y.1, tx_h T y.2)) f0 A4 F5 B h5 _ (htp.k frA) hw (hQ4.y (tx_y.on fr5) hF5 rfl) ⟨by show 0 + y.1.length ≤ tx_h T y.2; omega, hhl⟩ (fun A6 F6 h6 hw fr6A fr6 hQ6 => ?_)))
                have frF6 := (frF.trans (tx_y.on fr5).u).trans fr6
                have J152 : nd_W g mX7_readUnit d 0 0 K X 152 [some (.ref 101), some (.int (nI (tx_k T y.2)))] [.int (nI c), .ref 101] h6 0 0 := by
                  cases e6 : tx_bind (.inl (y.1, tx_h T y.2)) (tx_sum T (tx_m lm) k) with
                  | inr e =>
                    rw [e6] at hQ6 hk
                    refine mo_callV (As := [_]) (d2 := d - 1) hC hw rfl lkX7_162 lyX7_162 (Nat.le_of_ble_eq_true rfl) (by omega) rfl (by exact Nat.le_of_ble_eq_true rfl) (Nat.zero_le _) (Nat.zero_le _) dX7_readUnit_152 rfl ((sr_layE hg hw hQ6.1 ?_))
                    refine nd_return hC rfl (by omega) (by omega) dX7_readUnit_155 ((hk A6 F6 h6 hw (tx_k1 frA fr6A) frF6 (tx_Q.e hQ6.1)))
                  | inl z =>
                    rw [e6] at hQ6 hk
                    obtain ⟨x7, y7, q1, q2, q3⟩ := tx_bind_inl e6
                    cases q1
                    have h8 := tx_G_sum T (tx_m lm) k _ hhl
                    rw [q2] at h8
                    have h8 : tx_h T y.2 + y7.1.length ≤ y7.2 ∧ y7.2 ≤ T.length := h8
                    have z1 : z.1.length = y.1.length + y7.1.length := by rw [q3, List.length_append]
                    refine mo_callV (As := [_]) (d2 := d - 1) hC hw rfl lkX7_162 lyX7_162 (Nat.le_of_ble_eq_true rfl) (by omega) rfl (by exact Nat.le_of_ble_eq_true rfl) (Nat.zero_le _) (Nat.zero_le _) dX7_readUnit_152 rfl ((sr_lay hg hw hlo hQ6 (by omega) (fun A7 h7 hw b1 b2 => ?_)))
                    refine nd_return hC rfl (by omega) (by omega) dX7_readUnit_155 ((hk A7 F6 h7 hw (tx_k1 (tx_k1 frA fr6A) b1) frF6 b2))
                refine nd_aload_n hC dX7_readUnit_127 rfl rfl ?_
                refine nd_iload_n hC dX7_readUnit_128 rfl ?_
                refine nd_bipush hC (v := nI 61) (by rfl) dX7_readUnit_129 ?_
                first | with_reducible refine nd_icmp_neN hC (tgt := 139) (by omega) (by omega) dX7_readUnit_131 (by decide) (fun q1 => ?_) (fun q1 => ?_) | refine nd_icmp_ne hC (tgt := 139) dX7_readUnit_131 (by decide) (fun q1 => ?_) (fun q1 => ?_)
                · refine nd_iload_n hC dX7_readUnit_139 rfl ?_
                  refine nd_bipush hC (v := nI 60) (by rfl) dX7_readUnit_140 ?_
                  first | with_reducible refine nd_icmp_neN hC (tgt := 150) (by omega) (by omega) dX7_readUnit_142 (by decide) (fun q2 => ?_) (fun q2 => ?_) | refine nd_icmp_ne hC (tgt := 150) dX7_readUnit_142 (by decide) (fun q2 => ?_) (fun q2 => ?_)
                  · have ec : c = 15 := by omega
                    subst ec
                    refine nd_bipush hC (v := nI 15) (by rfl) dX7_readUnit_150 ?_
                    exact J152
                  · have ec : c = 14 := by omega
                    subst ec
                    refine nd_bipush hC (v := nI 14) (by rfl) dX7_readUnit_145 ?_
                    refine nd_goto hC (tgt := 152) dX7_readUnit_147 (by decide) ?_
                    exact J152
                · have ec : c = 13 := by omega
                  subst ec
                  refine nd_bipush hC (v := nI 13) (by rfl) dX7_readUnit_134 ?_
                  refine nd_goto hC (tgt := 152) dX7_readUnit_136 (by decide) ?_
                  exact J152
            refine nd_aload_n hC dX7_readUnit_84 rfl rfl ?_
            refine mo_get_token hC hw rfl dX7_readUnit_85 ?_
            refine nd_v_eq (congrArg Value.int (f10)) ?_
            refine nd_istore_n hC dX7_readUnit_88 (Nat.le_of_ble_eq_true rfl) ?_
            refine nd_iload_n hC dX7_readUnit_89 rfl ?_
            refine nd_bipush hC (v := nI 61) (by rfl) dX7_readUnit_90 ?_
            first | with_reducible refine nd_icmp_eqN hC (tgt := 112) (by omega) (by omega) dX7_readUnit_92 (by decide) (fun q1 => ?_) (fun q1 => ?_) | refine nd_icmp_eq hC (tgt := 112) dX7_readUnit_92 (by decide) (fun q1 => ?_) (fun q1 => ?_)
            · exact J112 13 (by unfold tx_cmp; rw [if_pos q1]) (Or.inl ⟨q1, rfl⟩)
            · refine nd_iload_n hC dX7_readUnit_95 rfl ?_
              refine nd_bipush hC (v := nI 60) (by rfl) dX7_readUnit_96 ?_
              first | with_reducible refine nd_icmp_eqN hC (tgt := 112) (by omega) (by omega) dX7_readUnit_98 (by decide) (fun q2 => ?_) (fun q2 => ?_) | refine nd_icmp_eq hC (tgt := 112) dX7_readUnit_98 (by decide) (fun q2 => ?_) (fun q2 => ?_)
              · exact J112 14 (by unfold tx_cmp; rw [if_neg q1, if_pos q2]) (Or.inr (Or.inl ⟨q2, rfl⟩))
              · refine nd_iload_n hC dX7_readUnit_101 rfl ?_
                refine nd_bipush hC (v := nI 62) (by rfl) dX7_readUnit_102 ?_
                first | with_reducible refine nd_icmp_eqN hC (tgt := 112) (by omega) (by omega) dX7_readUnit_104 (by decide) (fun q3 => ?_) (fun q3 => ?_) | refine nd_icmp_eq hC (tgt := 112) dX7_readUnit_104 (by decide) (fun q3 => ?_) (fun q3 => ?_)
                · exact J112 15 (by unfold tx_cmp; rw [if_neg q1, if_neg q2, if_pos q3]) (Or.inr (Or.inr ⟨q3, rfl⟩))
                · refine nd_aload_n hC dX7_readUnit_107 rfl rfl ?_
                  refine nd_iconst hC (v := nI 2) (by rfl) dX7_readUnit_108 ?_
                  refine mo_callV (As := [_]) (d2 := d - 1) hC hw rfl lkX7_134 lyX7_134 (Nat.le_of_ble_eq_true rfl) (by omega) rfl (by exact Nat.le_of_ble_eq_true rfl) (Nat.zero_le _) (Nat.zero_le _) dX7_readUnit_109 rfl ((sr_blames hg hw hQ4.1 (by omega) (by omega) (fun F5 h5 hw y5 Z5 => ?_)))
                  exact JE112 _ _ A4 F5 h5 hw frA (frF.trans y5.u) Z5 (by rw [eR]; exact tx_bind_ce (by unfold tx_cp tx_cmp; rw [if_neg q1, if_neg q2, if_neg q3]; rfl))
        · have hs := of_decide_eq_true hs
          refine nd_aload_n hC dX7_readUnit_53 rfl rfl ?_
          refine mo_callV (As := []) (d2 := d - 1) hC hw rfl lkX7_172 lyX7_172 (Nat.le_of_ble_eq_true rfl) (by omega) rfl (by exact Nat.le_of_ble_eq_true rfl) (Nat.zero_le _) (Nat.zero_le _) dX7_readUnit_54 rfl ((sr_goesIn (r := .inl x) hg (by omega) hw htp hin (by omega) hZ (fun F3 h3 hw fr3 hZ3 => ?_)))
          cases k with
          | zero =>
            have e6 : dp = 6 := by omega
            have eg : tx_bind (.inl x) (tx_go T dp) = .inr (4, tx_b T x.2) := tx_bind_ce (by unfold tx_go tx_e; rw [if_pos e6, if_neg (by omega)])
            rw [eg] at hZ3
            refine nd_aload_n hC dX7_readUnit_57 rfl rfl ?_
            refine mo_callV (As := []) (d2 := d - 1) hC hw rfl lkX7_178 lyX7_178 (Nat.le_of_ble_eq_true rfl) (by omega) rfl (by exact Nat.le_of_ble_eq_true rfl) (Nat.zero_le _) (Nat.zero_le _) dX7_readUnit_58 rfl ((sr_truthE hg (by omega) hw htp hZ3 (fun F4 h4 hw fr4 hZ4 => ?_)))
            refine nd_aload_n hC dX7_readUnit_61 rfl rfl ?_
            refine nd_bipush hC (v := nI 93) (by rfl) dX7_readUnit_62 ?_
            refine mo_callV (As := [_]) (d2 := d - 1) hC hw rfl lkX7_151 lyX7_151 (Nat.le_of_ble_eq_true rfl) (by omega) rfl (by exact Nat.le_of_ble_eq_true rfl) (Nat.zero_le _) (Nat.zero_le _) dX7_readUnit_64 rfl ((sr_mustSign hg (by omega) hw htp (r := .inr (4, tx_b T x.2)) trivial hZ4 (by omega) (fun F5 h5 hw fr5 hZ5 => ?_)))
            exact JE67 _ A F5 h5 hw (fun _ _ => rfl) ((fr3.trans fr4).trans fr5).u hZ5 (tx_bind_ce (by unfold tx_unW; rw [if_neg hno1, if_pos hs]; rfl))
          | succ k2 =>
            have eg : tx_bind (.inl x) (tx_go T dp) = .inl (x.1, tx_h T x.2) := by
              rw [tx_bind_g (f2 := tx_on T) (by unfold tx_go; rw [if_neg (by omega)])]
              exact tx_bind_on T x
            rw [eg] at hZ3
            have hgt := tx_h_gt (T := T) (p := x.2) (by omega)
            have hbg := tx_b_ge T x.2
            have hhl := tx_h_le T hin
            have eR : tx_bind (.inl x) (tx_unW T (tx_sum T (tx_m lm) (k2 + 1)) (tx_dn (tx_unit T (tx_m lm)) (k2 + 1))) = tx_bind (tx_bind (.inl (x.1, tx_h T x.2)) (tx_truth T (tx_m lm) k2)) (tx_must T 93) := by
              rw [tx_bind_g (f2 := fun p => tx_bind (tx_bind (tx_on T p) (tx_trW T (tx_unit T (tx_m lm) k2))) (tx_must T 93)) (by unfold tx_unW; rw [if_neg hno1, if_pos hs]; rfl), ← tx_bind_on]
              simp only [tx_bind_a]
              rfl
            have hb2 : tx_gd T 0 (.inl (x.1, tx_h T x.2)) := ⟨by show 0 + x.1.length ≤ tx_h T x.2; omega, hhl⟩
            have hb3 := tx_gd_bind hb2 (tx_G_truth T (tx_m lm) k2)
            refine nd_aload_n hC dX7_readUnit_57 rfl rfl ?_
            refine mo_callV (As := []) (d2 := d - 1) hC hw rfl lkX7_178 lyX7_178 (Nat.le_of_ble_eq_true rfl) (by omega) rfl (by exact Nat.le_of_ble_eq_true rfl) (Nat.zero_le _) (Nat.zero_le _) dX7_readUnit_58 rfl ((hsubT k2 rfl _ f0 A F3 B h3 _ htp hw (hQ.y fr3 hZ3 rfl) hb2 (fun A4 F4 h4 hw frA frF hQ4 => ?_)))
            refine nd_aload_n hC dX7_readUnit_61 rfl rfl ?_
            refine nd_bipush hC (v := nI 93) (by rfl) dX7_readUnit_62 ?_
            refine mo_callV (As := [_]) (d2 := d - 1) hC hw rfl lkX7_151 lyX7_151 (Nat.le_of_ble_eq_true rfl) (by omega) rfl (by exact Nat.le_of_ble_eq_true rfl) (Nat.zero_le _) (Nat.zero_le _) dX7_readUnit_64 rfl ((sr_mustSign hg (by omega) hw (htp.k frA) hb3.i hQ4.1 (by omega) (fun F5 h5 hw fr5 hZ5 => ?_)))
            cases e5 : tx_bind (tx_bind (.inl (x.1, tx_h T x.2)) (tx_truth T (tx_m lm) k2)) (tx_must T 93) with
            | inr e =>
              rw [e5] at hZ5
              exact JE67 e A4 F5 h5 hw frA ((fr3.u.trans frF).trans fr5.u) hZ5 (eR.trans e5)
            | inl z =>
              rw [e5] at hZ5
              rw [eR, e5] at hk
              obtain ⟨x4, y4, q1, q2, q3⟩ := tx_bind_inl e5
              rw [q1] at hQ4
              obtain ⟨a17, a18, aL⟩ := hQ4.2 x4 rfl
              have ey : y4.1 = [] := by
                unfold tx_must at q2
                split at q2
                · cases q2; rfl
                · cases q2
              have ez : z.1 = x4.1 := by rw [q3, ey, List.append_nil]
              have g16 : F5 16 = nI (dp + 1) := hZ5.2.2.2.2.2.2
              refine nd_aload_n hC dX7_readUnit_67 rfl rfl ?_
              refine nd_dup hC (by rfl) dX7_readUnit_68 ?_
              refine mo_get_deep hC hw rfl dX7_readUnit_69 ?_
              refine nd_v_eq (congrArg Value.int (g16)) ?_
              refine nd_iconst hC (v := nI 1) (by rfl) dX7_readUnit_72 ?_
              first | with_reducible refine nd_isubN hC (by omega) dX7_readUnit_73 ?_ | refine nd_isub hC dX7_readUnit_73 ?_
              refine mo_put_deep hC hw rfl dX7_readUnit_74 (fun h hw => ?_)
              refine nd_goto hC (tgt := 155) dX7_readUnit_77 (by decide) ?_
              refine nd_return hC rfl (by omega) (by omega) dX7_readUnit_155 (hk A4 _ h hw frA ((fr3.u.trans frF).trans (fr5.u.up (by omega))) ⟨?_, fun z2 ez2 => ?_⟩)
              · obtain ⟨w1, w2, w3, w4, w5, w6, w7⟩ := hZ5
                exact ⟨w1, w2, w3, w4, w5, w6, rfl⟩
              · cases ez2
                exact ⟨(fr5 17 (by omega)).trans a17, (fr5 18 (by omega)).trans a18, by rw [ez]; exact aL⟩
      · have hk1 := tx_w_k hno
        refine nd_aload_n hC dX7_readUnit_17 rfl rfl ?_
        refine mo_callV (As := []) (d2 := d - 1) hC hw rfl lkX7_172 lyX7_172 (Nat.le_of_ble_eq_true rfl) (by omega) rfl (by exact Nat.le_of_ble_eq_true rfl) (Nat.zero_le _) (Nat.zero_le _) dX7_readUnit_18 rfl ((sr_goesIn (r := .inl x) hg (by omega) hw htp hin (by omega) hZ (fun F3 h3 hw fr3 hZ3 => ?_)))
        cases k with
        | zero =>
          have e6 : dp = 6 := by omega
          have eg : tx_bind (.inl x) (tx_go T dp) = .inr (4, tx_b T x.2) := tx_bind_ce (by unfold tx_go tx_e; rw [if_pos e6, if_neg (by omega)])
          rw [eg] at hZ3
          refine nd_aload_n hC dX7_readUnit_21 rfl rfl ?_
          refine mo_callV (As := []) (d2 := d - 1) hC hw rfl lkX7_165 lyX7_165 (Nat.le_of_ble_eq_true rfl) (by omega) rfl (by exact Nat.le_of_ble_eq_true rfl) (Nat.zero_le _) (Nat.zero_le _) dX7_readUnit_22 rfl ((sr_unitE hg hw hZ3 ?_))
          refine nd_aload_n hC dX7_readUnit_25 rfl rfl ?_
          refine nd_bipush hC (v := nI 18) (by rfl) dX7_readUnit_26 ?_
          refine mo_callV (As := [_]) (d2 := d - 1) hC hw rfl lkX7_162 lyX7_162 (Nat.le_of_ble_eq_true rfl) (by omega) rfl (by exact Nat.le_of_ble_eq_true rfl) (Nat.zero_le _) (Nat.zero_le _) dX7_readUnit_28 rfl ((sr_layE hg hw hZ3 ?_))
          exact JE31 _ A F3 h3 hw (fun _ _ => rfl) fr3.u hZ3 (tx_bind_ce (by unfold tx_unW; rw [if_pos hno]; rfl))
        | succ k2 =>
          have eg : tx_bind (.inl x) (tx_go T dp) = .inl (x.1, tx_h T x.2) := by
            rw [tx_bind_g (f2 := tx_on T) (by unfold tx_go; rw [if_neg (by omega)])]
            exact tx_bind_on T x
          rw [eg] at hZ3
          have hgt := tx_h_gt (T := T) (p := x.2) (by omega)
          have hbg := tx_b_ge T x.2
          have hhl := tx_h_le T hin
          have eR : tx_bind (.inl x) (tx_unW T (tx_sum T (tx_m lm) (k2 + 1)) (tx_dn (tx_unit T (tx_m lm)) (k2 + 1))) = tx_bind (tx_bind (.inl (x.1, tx_h T x.2)) (tx_unit T (tx_m lm) k2)) (tx_lay 18) := by
            rw [tx_bind_g (f2 := fun p => tx_bind (tx_bind (tx_on T p) (tx_unit T (tx_m lm) k2)) (tx_lay 18)) (by unfold tx_unW; rw [if_pos hno]; rfl), ← tx_bind_on]
            simp only [tx_bind_a]
          have hb2 : tx_gd T 0 (.inl (x.1, tx_h T x.2)) := ⟨by show 0 + x.1.length ≤ tx_h T x.2; omega, hhl⟩
          refine nd_aload_n hC dX7_readUnit_21 rfl rfl ?_
          refine mo_callV (As := []) (d2 := d - 1) hC hw rfl lkX7_165 lyX7_165 (Nat.le_of_ble_eq_true rfl) (by omega) rfl (by exact Nat.le_of_ble_eq_true rfl) (Nat.zero_le _) (Nat.zero_le _) dX7_readUnit_22 rfl ((hsubU k2 rfl _ f0 A F3 B h3 _ htp hw (hQ.y fr3 hZ3 rfl) hb2 (fun A4 F4 h4 hw frA frF hQ4 => ?_)))
          refine nd_aload_n hC dX7_readUnit_25 rfl rfl ?_
          refine nd_bipush hC (v := nI 18) (by rfl) dX7_readUnit_26 ?_
          cases e5 : tx_bind (.inl (x.1, tx_h T x.2)) (tx_unit T (tx_m lm) k2) with
          | inr e =>
            rw [e5] at hQ4 eR
            refine mo_callV (As := [_]) (d2 := d - 1) hC hw rfl lkX7_162 lyX7_162 (Nat.le_of_ble_eq_true rfl) (by omega) rfl (by exact Nat.le_of_ble_eq_true rfl) (Nat.zero_le _) (Nat.zero_le _) dX7_readUnit_28 rfl ((sr_layE hg hw hQ4.1 ?_))
            exact JE31 e A4 F4 h4 hw frA (fr3.u.trans frF) hQ4.1 eR
          | inl z =>
            rw [e5] at hQ4 eR
            rw [eR] at hk
            obtain ⟨x7, y7, q1, q2, q3⟩ := tx_bind_inl e5
            cases q1
            have h8 := tx_G_unit T (tx_m lm) k2 _ hhl
            rw [q2] at h8
            have h8 : tx_h T x.2 + y7.1.length ≤ y7.2 ∧ y7.2 ≤ T.length := h8
            have z1 : z.1.length = x.1.length + y7.1.length := by rw [q3, List.length_append]
            refine mo_callV (As := [_]) (d2 := d - 1) hC hw rfl lkX7_162 lyX7_162 (Nat.le_of_ble_eq_true rfl) (by omega) rfl (by exact Nat.le_of_ble_eq_true rfl) (Nat.zero_le _) (Nat.zero_le _) dX7_readUnit_28 rfl ((sr_lay hg hw hlo hQ4 (by omega) (fun A7 h7 hw b1 b2 => ?_)))
            have g16 : F4 16 = nI (dp + 1) := hQ4.1.2.2.2.2.2.2
            refine nd_aload_n hC dX7_readUnit_31 rfl rfl ?_
            refine nd_dup hC (by rfl) dX7_readUnit_32 ?_
            refine mo_get_deep hC hw rfl dX7_readUnit_33 ?_
            refine nd_v_eq (congrArg Value.int (g16)) ?_
            refine nd_iconst hC (v := nI 1) (by rfl) dX7_readUnit_36 ?_
            first | with_reducible refine nd_isubN hC (by omega) dX7_readUnit_37 ?_ | refine nd_isub hC dX7_readUnit_37 ?_
            refine mo_put_deep hC hw rfl dX7_readUnit_38 (fun h hw => ?_)
            refine nd_goto hC (tgt := 155) dX7_readUnit_41 (by decide) ?_
            refine nd_return hC rfl (by omega) (by omega) dX7_readUnit_155 (hk A7 _ h hw (tx_k1 frA b1) (fr3.u.trans (frF.up (by omega))) ⟨?_, fun z2 ez2 => ?_⟩)
            · obtain ⟨w1, w2, w3, w4, w5, w6, w7⟩ := b2.1
              exact ⟨w1, w2, w3, w4, w5, w6, rfl⟩
            · exact b2.2 z2 ez2
    · exact absurd rfl hc
theorem sr_truths (hg : nd_OK g) (hlo : tx_lo lm la) (hT : T.length ≤ 900) : ∀ k dp d, dp + k = 6 → 30 + 3 * k ≤ d → tx_C g h0 T mX7_readUnit d dp lm la (tx_unit T (tx_m lm) k) := by
  intro k
  induction k with
  | zero =>
    intro dp d h6 hd
    exact sr_unit hg (by omega) hlo hT h6 (sr_sum hg hlo hT 0 dp _ h6 (by omega)) (fun k2 e => by omega) (fun k2 e => by omega)
  | succ k ih =>
    intro dp d h6 hd
    refine sr_unit hg (by omega) hlo hT h6 (sr_sum hg hlo hT (k + 1) dp _ h6 (by omega)) (fun k2 e => ?_) (fun k2 e => ?_)
    · have e2 : k2 = k := by omega
      subst e2
      exact ih (dp + 1) _ (by omega) (by omega)
    · have e2 : k2 = k := by omega
      subst e2
      exact sr_truth0 hg (by omega) hlo hT (sr_both hg (by omega) hlo hT (ih (dp + 1) _ (by omega) (by omega)) (tx_G_unit T (tx_m lm) k2)) (tx_G_both (tx_G_unit T (tx_m lm) k2))
theorem sr_truth (hg : nd_OK g) (hlo : tx_lo lm la) (hT : T.length ≤ 900) (hd : 50 ≤ d) : tx_C g h0 T mX7_readTruth d 0 lm la (tx_truth T (tx_m lm) 6) := sr_truth0 hg (by omega) hlo hT (sr_both hg (by omega) hlo hT (sr_truths hg hlo hT 6 0 _ (by omega) (by omega)) (tx_G_unit T (tx_m lm) 6)) (tx_G_both (tx_G_unit T (tx_m lm) 6))
end RT5

