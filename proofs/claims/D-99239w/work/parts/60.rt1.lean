set_option maxRecDepth 100000
/-! ===== the reference's reader: tokens ===== -/
def tx_tp (A : Nat → Nat → Int32) (T : List Nat) : Prop := T.length ≤ 900 ∧ (∀ i, i < T.length → A 5 i = nI (T.getD i 0)) ∧ ∀ i, T.getD i 0 < 256
/-- the reader stands behind p, dp deep -/
def tx_F (T : List Nat) (p dp : Nat) (F : Nat → Int32) : Prop := F 7 = nI T.length ∧ F 8 = nI (tx_h T p) ∧ F 9 = nI (tx_b T p) ∧ F 10 = nI (tx_k T p) ∧ (tx_k T p = 2 → F 11 = nI (tx_v T p)) ∧ F 12 = nI 0 ∧ F 16 = nI dp
def tx_u (F F2 : Nat → Int32) : Prop := ∀ k, (k < 8 ∨ k = 14 ∨ k = 15 ∨ 19 ≤ k) → F2 k = F k
theorem tx_u.rfl {F : Nat → Int32} : tx_u F F := fun _ _ => Eq.refl _
theorem tx_u.trans {F F2 F3 : Nat → Int32} (h : tx_u F F2) (h2 : tx_u F2 F3) : tx_u F F3 := fun k hk => (h2 k hk).trans (h k hk)
theorem tx_u.up {F F2 : Nat → Int32} {j : Nat} {v : Int32} (h : tx_u F F2) (hj : 8 ≤ j ∧ j < 19 ∧ j ≠ 14 ∧ j ≠ 15) : tx_u F (va_up F2 j v) := fun k hk => by rw [va_up_n _ _ (by omega)]; exact h k hk
theorem tx_sp_f {c : Nat} (h1 : c ≠ 32) (h2 : c ≠ 10) : tx_sp c = false := by simp [tx_sp, h1, h2]
section RT1
variable {g : nd_G} {d : Nat} {K : nd_K} {h h0 : nd_H} {A : Nat → Nat → Int32} {F : Nat → Int32} {B : Nat → Nat → Int64} {T : List Nat}
theorem sr_see (hg : nd_OK g) (hw : mo_W h0 A F B h) (htp : tx_tp A T) (h7 : F 7 = nI T.length) {q : Nat} (hq : q ≤ T.length) (hk : K (.inl (some (.int (nI (T.getD q 0))))) h) : nd_M g mX7_see d 0 0 [.ref 101, .int (nI q)] h K := by
  have h9 := htp.1
  refine nd_enter hg (by decide) rfl (Nat.le_of_ble_eq_true rfl) (fun X hC => ?_)
  refine nd_iload_n hC dX7_see_0 rfl ?_
  refine nd_aload_n hC dX7_see_1 rfl rfl ?_
  refine mo_get_length hC hw rfl dX7_see_2 ?_
  refine nd_v_eq (congrArg Value.int (h7)) ?_
  first | with_reducible refine nd_icmp_geN hC (tgt := 17) (by omega) (by omega) dX7_see_5 (by decide) (fun hc => ?_) (fun hc => ?_) | refine nd_icmp_ge hC (tgt := 17) dX7_see_5 (by decide) (fun hc => ?_) (fun hc => ?_)
  · refine nd_iconst hC (v := nI 0) (by rfl) dX7_see_17 ?_
    have e : T.getD q 0 = 0 := by rw [List.getD_eq_getElem?_getD, List.getElem?_eq_none (by omega)]; rfl
    rw [e] at hk
    refine nd_ireturn hC rfl (by first | rfl | exact nd_b_nar _) (by omega) (by omega) dX7_see_18 (hk)
  · refine nd_aload_n hC dX7_see_8 rfl rfl ?_
    refine mo_get_tape hC hw rfl dX7_see_9 ?_
    refine nd_iload_n hC dX7_see_12 rfl ?_
    refine nd_ialoadN hC hw.tape (by omega) (by decide) dX7_see_13 ?_
    refine nd_v_eq (congrArg Value.int (htp.2.1 q hc)) ?_
    refine nd_goto hC (tgt := 18) dX7_see_14 (by decide) ?_
    refine nd_ireturn hC rfl (by first | rfl | exact nd_b_nar _) (by omega) (by omega) dX7_see_18 (hk)
theorem sr_isLetter (hg : nd_OK g) {c : Nat} (hc9 : c < 256) (hk : K (.inl (some (.int (nd_b (tx_al c))))) h) : nd_M g mX7_isLetter d 0 0 [.int (nI c)] h K := by
  refine nd_enter hg (by decide) rfl (Nat.le_of_ble_eq_true rfl) (fun X hC => ?_)
  refine nd_iload_n hC dX7_isLetter_0 rfl ?_
  refine nd_bipush hC (v := nI 97) (by rfl) dX7_isLetter_1 ?_
  first | with_reducible refine nd_icmp_ltN hC (tgt := 16) (by omega) (by omega) dX7_isLetter_3 (by decide) (fun hc => ?_) (fun hc => ?_) | refine nd_icmp_lt hC (tgt := 16) dX7_isLetter_3 (by decide) (fun hc => ?_) (fun hc => ?_)
  · refine nd_iconst hC (v := nI 0) (by rfl) dX7_isLetter_16 ?_
    rw [show tx_al c = false by simp [tx_al]; omega] at hk
    refine nd_ireturn hC rfl (by first | rfl | exact nd_b_nar _) (by omega) (by omega) dX7_isLetter_17 (hk)
  · refine nd_iload_n hC dX7_isLetter_6 rfl ?_
    refine nd_bipush hC (v := nI 122) (by rfl) dX7_isLetter_7 ?_
    first | with_reducible refine nd_icmp_gtN hC (tgt := 16) (by omega) (by omega) dX7_isLetter_9 (by decide) (fun hc2 => ?_) (fun hc2 => ?_) | refine nd_icmp_gt hC (tgt := 16) dX7_isLetter_9 (by decide) (fun hc2 => ?_) (fun hc2 => ?_)
    · refine nd_iconst hC (v := nI 0) (by rfl) dX7_isLetter_16 ?_
      rw [show tx_al c = false by simp [tx_al]; omega] at hk
      refine nd_ireturn hC rfl (by first | rfl | exact nd_b_nar _) (by omega) (by omega) dX7_isLetter_17 (hk)
    · refine nd_iconst hC (v := nI 1) (by rfl) dX7_isLetter_12 ?_
      refine nd_goto hC (tgt := 17) dX7_isLetter_13 (by decide) ?_
      rw [show tx_al c = true by simp [tx_al]; omega] at hk
      refine nd_ireturn hC rfl (by first | rfl | exact nd_b_nar _) (by omega) (by omega) dX7_isLetter_17 (hk)
theorem sr_isDigit (hg : nd_OK g) {c : Nat} (hc9 : c < 256) (hk : K (.inl (some (.int (nd_b (tx_dg c))))) h) : nd_M g mX7_isDigit d 0 0 [.int (nI c)] h K := by
  refine nd_enter hg (by decide) rfl (Nat.le_of_ble_eq_true rfl) (fun X hC => ?_)
  refine nd_iload_n hC dX7_isDigit_0 rfl ?_
  refine nd_bipush hC (v := nI 48) (by rfl) dX7_isDigit_1 ?_
  first | with_reducible refine nd_icmp_ltN hC (tgt := 16) (by omega) (by omega) dX7_isDigit_3 (by decide) (fun hc => ?_) (fun hc => ?_) | refine nd_icmp_lt hC (tgt := 16) dX7_isDigit_3 (by decide) (fun hc => ?_) (fun hc => ?_)
  · refine nd_iconst hC (v := nI 0) (by rfl) dX7_isDigit_16 ?_
    rw [show tx_dg c = false by simp [tx_dg]; omega] at hk
    refine nd_ireturn hC rfl (by first | rfl | exact nd_b_nar _) (by omega) (by omega) dX7_isDigit_17 (hk)
  · refine nd_iload_n hC dX7_isDigit_6 rfl ?_
    refine nd_bipush hC (v := nI 57) (by rfl) dX7_isDigit_7 ?_
    first | with_reducible refine nd_icmp_gtN hC (tgt := 16) (by omega) (by omega) dX7_isDigit_9 (by decide) (fun hc2 => ?_) (fun hc2 => ?_) | refine nd_icmp_gt hC (tgt := 16) dX7_isDigit_9 (by decide) (fun hc2 => ?_) (fun hc2 => ?_)
    · refine nd_iconst hC (v := nI 0) (by rfl) dX7_isDigit_16 ?_
      rw [show tx_dg c = false by simp [tx_dg]; omega] at hk
      refine nd_ireturn hC rfl (by first | rfl | exact nd_b_nar _) (by omega) (by omega) dX7_isDigit_17 (hk)
    · refine nd_iconst hC (v := nI 1) (by rfl) dX7_isDigit_12 ?_
      refine nd_goto hC (tgt := 17) dX7_isDigit_13 (by decide) ?_
      rw [show tx_dg c = true by simp [tx_dg]; omega] at hk
      refine nd_ireturn hC rfl (by first | rfl | exact nd_b_nar _) (by omega) (by omega) dX7_isDigit_17 (hk)
theorem sr_isSignByte (hg : nd_OK g) {c : Nat} (hc9 : c < 256) (hk : K (.inl (some (.int (nd_b (tx_sg c))))) h) : nd_M g mX7_isSignByte d 0 0 [.int (nI c)] h K := by
  refine nd_enter hg (by decide) rfl (Nat.le_of_ble_eq_true rfl) (fun X hC => ?_)
  have J82 : ∀ lv1, tx_sg c = true → nd_W g mX7_isSignByte d 0 0 K X 82 [some (.int (nI c)), lv1] [] h 0 0 := by
    intro lv1 e
    rw [e] at hk
    refine nd_iconst hC (v := nI 1) (by rfl) dX7_isSignByte_82 ?_
    refine nd_goto hC (tgt := 87) dX7_isSignByte_83 (by decide) ?_
    refine nd_ireturn hC rfl (by first | rfl | exact nd_b_nar _) (by omega) (by omega) dX7_isSignByte_87 (hk)
  have J36 : tx_sg c = true → nd_W g mX7_isSignByte d 0 0 K X 36 [some (.int (nI c)), none] [] h 0 0 := by
    intro e
    refine nd_iconst hC (v := nI 1) (by rfl) dX7_isSignByte_36 ?_
    refine nd_goto hC (tgt := 41) dX7_isSignByte_37 (by decide) ?_
    refine nd_istore_n hC dX7_isSignByte_41 (Nat.le_of_ble_eq_true rfl) ?_
    refine nd_iload_n hC dX7_isSignByte_42 rfl ?_
    first | with_reducible refine nd_if_neB hC (tgt := 82) dX7_isSignByte_43 (by decide) (fun hq => ?_) (fun hq => ?_) | with_reducible refine nd_if_neN hC (tgt := 82) (by omega) dX7_isSignByte_43 (by decide) (fun hq => ?_) (fun hq => ?_) | refine nd_if_ne hC (tgt := 82) dX7_isSignByte_43 (by decide) (fun hq => ?_) (fun hq => ?_)
    · exact J82 _ e
    · omega
  refine nd_iload_n hC dX7_isSignByte_0 rfl ?_
  refine nd_bipush hC (v := nI 91) (by rfl) dX7_isSignByte_1 ?_
  first | with_reducible refine nd_icmp_eqN hC (tgt := 36) (by omega) (by omega) dX7_isSignByte_3 (by decide) (fun h1 => ?_) (fun h1 => ?_) | refine nd_icmp_eq hC (tgt := 36) dX7_isSignByte_3 (by decide) (fun h1 => ?_) (fun h1 => ?_)
  · exact J36 (by simp [tx_sg, h1])
  · refine nd_iload_n hC dX7_isSignByte_6 rfl ?_
    refine nd_bipush hC (v := nI 93) (by rfl) dX7_isSignByte_7 ?_
    first | with_reducible refine nd_icmp_eqN hC (tgt := 36) (by omega) (by omega) dX7_isSignByte_9 (by decide) (fun h2 => ?_) (fun h2 => ?_) | refine nd_icmp_eq hC (tgt := 36) dX7_isSignByte_9 (by decide) (fun h2 => ?_) (fun h2 => ?_)
    · exact J36 (by simp [tx_sg, h2])
    · refine nd_iload_n hC dX7_isSignByte_12 rfl ?_
      refine nd_bipush hC (v := nI 61) (by rfl) dX7_isSignByte_13 ?_
      first | with_reducible refine nd_icmp_eqN hC (tgt := 36) (by omega) (by omega) dX7_isSignByte_15 (by decide) (fun h3 => ?_) (fun h3 => ?_) | refine nd_icmp_eq hC (tgt := 36) dX7_isSignByte_15 (by decide) (fun h3 => ?_) (fun h3 => ?_)
      · exact J36 (by simp [tx_sg, h3])
      · refine nd_iload_n hC dX7_isSignByte_18 rfl ?_
        refine nd_bipush hC (v := nI 60) (by rfl) dX7_isSignByte_19 ?_
        first | with_reducible refine nd_icmp_eqN hC (tgt := 36) (by omega) (by omega) dX7_isSignByte_21 (by decide) (fun h4 => ?_) (fun h4 => ?_) | refine nd_icmp_eq hC (tgt := 36) dX7_isSignByte_21 (by decide) (fun h4 => ?_) (fun h4 => ?_)
        · exact J36 (by simp [tx_sg, h4])
        · refine nd_iload_n hC dX7_isSignByte_24 rfl ?_
          refine nd_bipush hC (v := nI 62) (by rfl) dX7_isSignByte_25 ?_
          first | with_reducible refine nd_icmp_eqN hC (tgt := 36) (by omega) (by omega) dX7_isSignByte_27 (by decide) (fun h5 => ?_) (fun h5 => ?_) | refine nd_icmp_eq hC (tgt := 36) dX7_isSignByte_27 (by decide) (fun h5 => ?_) (fun h5 => ?_)
          · exact J36 (by simp [tx_sg, h5])
          · refine nd_iload_n hC dX7_isSignByte_30 rfl ?_
            refine nd_bipush hC (v := nI 58) (by rfl) dX7_isSignByte_31 ?_
            first | with_reducible refine nd_icmp_neN hC (tgt := 40) (by omega) (by omega) dX7_isSignByte_33 (by decide) (fun h6 => ?_) (fun h6 => ?_) | refine nd_icmp_ne hC (tgt := 40) dX7_isSignByte_33 (by decide) (fun h6 => ?_) (fun h6 => ?_)
            · refine nd_iconst hC (v := nI 0) (by rfl) dX7_isSignByte_40 ?_
              refine nd_istore_n hC dX7_isSignByte_41 (Nat.le_of_ble_eq_true rfl) ?_
              refine nd_iload_n hC dX7_isSignByte_42 rfl ?_
              first | with_reducible refine nd_if_neB hC (tgt := 82) dX7_isSignByte_43 (by decide) (fun hq => ?_) (fun hq => ?_) | with_reducible refine nd_if_neN hC (tgt := 82) (by omega) dX7_isSignByte_43 (by decide) (fun hq => ?_) (fun hq => ?_) | refine nd_if_ne hC (tgt := 82) dX7_isSignByte_43 (by decide) (fun hq => ?_) (fun hq => ?_)
              · omega
              · refine nd_iload_n hC dX7_isSignByte_46 rfl ?_
                refine nd_bipush hC (v := nI 59) (by rfl) dX7_isSignByte_47 ?_
                first | with_reducible refine nd_icmp_eqN hC (tgt := 82) (by omega) (by omega) dX7_isSignByte_49 (by decide) (fun h7 => ?_) (fun h7 => ?_) | refine nd_icmp_eq hC (tgt := 82) dX7_isSignByte_49 (by decide) (fun h7 => ?_) (fun h7 => ?_)
                · exact J82 _ (by simp [tx_sg, h7])
                · refine nd_iload_n hC dX7_isSignByte_52 rfl ?_
                  refine nd_bipush hC (v := nI 43) (by rfl) dX7_isSignByte_53 ?_
                  first | with_reducible refine nd_icmp_eqN hC (tgt := 82) (by omega) (by omega) dX7_isSignByte_55 (by decide) (fun h8 => ?_) (fun h8 => ?_) | refine nd_icmp_eq hC (tgt := 82) dX7_isSignByte_55 (by decide) (fun h8 => ?_) (fun h8 => ?_)
                  · exact J82 _ (by simp [tx_sg, h8])
                  · refine nd_iload_n hC dX7_isSignByte_58 rfl ?_
                    refine nd_bipush hC (v := nI 45) (by rfl) dX7_isSignByte_59 ?_
                    first | with_reducible refine nd_icmp_eqN hC (tgt := 82) (by omega) (by omega) dX7_isSignByte_61 (by decide) (fun h9 => ?_) (fun h9 => ?_) | refine nd_icmp_eq hC (tgt := 82) dX7_isSignByte_61 (by decide) (fun h9 => ?_) (fun h9 => ?_)
                    · exact J82 _ (by simp [tx_sg, h9])
                    · refine nd_iload_n hC dX7_isSignByte_64 rfl ?_
                      refine nd_bipush hC (v := nI 42) (by rfl) dX7_isSignByte_65 ?_
                      first | with_reducible refine nd_icmp_eqN hC (tgt := 82) (by omega) (by omega) dX7_isSignByte_67 (by decide) (fun h10 => ?_) (fun h10 => ?_) | refine nd_icmp_eq hC (tgt := 82) dX7_isSignByte_67 (by decide) (fun h10 => ?_) (fun h10 => ?_)
                      · exact J82 _ (by simp [tx_sg, h10])
                      · refine nd_iload_n hC dX7_isSignByte_70 rfl ?_
                        refine nd_bipush hC (v := nI 40) (by rfl) dX7_isSignByte_71 ?_
                        first | with_reducible refine nd_icmp_eqN hC (tgt := 82) (by omega) (by omega) dX7_isSignByte_73 (by decide) (fun h11 => ?_) (fun h11 => ?_) | refine nd_icmp_eq hC (tgt := 82) dX7_isSignByte_73 (by decide) (fun h11 => ?_) (fun h11 => ?_)
                        · exact J82 _ (by simp [tx_sg, h11])
                        · refine nd_iload_n hC dX7_isSignByte_76 rfl ?_
                          refine nd_bipush hC (v := nI 41) (by rfl) dX7_isSignByte_77 ?_
                          first | with_reducible refine nd_icmp_neN hC (tgt := 86) (by omega) (by omega) dX7_isSignByte_79 (by decide) (fun h12 => ?_) (fun h12 => ?_) | refine nd_icmp_ne hC (tgt := 86) dX7_isSignByte_79 (by decide) (fun h12 => ?_) (fun h12 => ?_)
                          · refine nd_iconst hC (v := nI 0) (by rfl) dX7_isSignByte_86 ?_
                            rw [show tx_sg c = false by simp [tx_sg]; omega] at hk
                            refine nd_ireturn hC rfl (by first | rfl | exact nd_b_nar _) (by omega) (by omega) dX7_isSignByte_87 (hk)
                          · exact J82 _ (by simp [tx_sg, h12])
            · exact J36 (by simp [tx_sg, h6])
theorem sr_on (hg : nd_OK g) (hd : 1 ≤ d) (hw : mo_W h0 A F B h) (htp : tx_tp A T) {p dp : Nat} (hp : p ≤ T.length) (h7 : F 7 = nI T.length) (h8 : F 8 = nI p) (h12 : F 12 = nI 0) (h16 : F 16 = nI dp) (hk : ∀ F2 h2, mo_W h0 A F2 B h2 → (∀ k, (k < 8 ∨ 12 ≤ k) → F2 k = F k) → tx_F T p dp F2 → K (.inl none) h2) : nd_M g mX7_readsOn d 0 0 [.ref 101] h K := by
  obtain ⟨h9, htp1, hby⟩ := id htp
  have hbg := tx_b_ge T p
  have hbl := tx_b_le T hp
  refine nd_enter hg (by decide) rfl (Nat.le_of_ble_eq_true rfl) (fun X hC => ?_)
  have L1 : (∀ F1 h, mo_W h0 A F1 B h → (∀ k, (k < 8 ∨ 12 ≤ k) → F1 k = F k) → F1 8 = nI (tx_b T p) → nd_W g mX7_readsOn d 0 0 K X 52 [some (.ref 101), none] [] h 0 0) → ∀ q, q ≤ T.length → ∀ F1 h, mo_W h0 A F1 B h → (∀ k, (k < 8 ∨ 12 ≤ k) → F1 k = F k) → F1 8 = nI q → tx_b T p = tx_end tx_sp T q → nd_W g mX7_readsOn d 0 0 K X 0 [some (.ref 101), none] [] h 0 0 := by
    intro J
    refine nd_for _ _ ?_ ?_
    · intro F1 h hw fr e8 eb
      have e7 : F1 7 = nI T.length := (fr 7 (by omega)).trans h7
      refine nd_aload_n hC dX7_readsOn_0 rfl rfl ?_
      refine mo_get_head hC hw rfl dX7_readsOn_1 ?_
      refine nd_v_eq (congrArg Value.int (e8)) ?_
      refine nd_aload_n hC dX7_readsOn_4 rfl rfl ?_
      refine mo_get_length hC hw rfl dX7_readsOn_5 ?_
      refine nd_v_eq (congrArg Value.int (e7)) ?_
      first | with_reducible refine nd_icmp_geN hC (tgt := 52) (by omega) (by omega) dX7_readsOn_8 (by decide) (fun hc => ?_) (fun hc => ?_) | refine nd_icmp_ge hC (tgt := 52) dX7_readsOn_8 (by decide) (fun hc => ?_) (fun hc => ?_)
      · rw [tx_end_eq, if_neg (by omega)] at eb
        exact J F1 h hw fr (by rw [eb]; exact e8)
      · omega
    · intro q hq ih F1 h hw fr e8 eb
      have e7 : F1 7 = nI T.length := (fr 7 (by omega)).trans h7
      have hb := hby q
      refine nd_aload_n hC dX7_readsOn_0 rfl rfl ?_
      refine mo_get_head hC hw rfl dX7_readsOn_1 ?_
      refine nd_v_eq (congrArg Value.int (e8)) ?_
      refine nd_aload_n hC dX7_readsOn_4 rfl rfl ?_
      refine mo_get_length hC hw rfl dX7_readsOn_5 ?_
      refine nd_v_eq (congrArg Value.int (e7)) ?_
      first | with_reducible refine nd_icmp_geN hC (tgt := 52) (by omega) (by omega) dX7_readsOn_8 (by decide) (fun hc => ?_) (fun hc => ?_) | refine nd_icmp_ge hC (tgt := 52) dX7_readsOn_8 (by decide) (fun hc => ?_) (fun hc => ?_)
      · omega
      · have J2 : tx_sp (T.getD q 0) = true → nd_W g mX7_readsOn d 0 0 K X 39 [some (.ref 101), none] [] h 0 0 := by
          intro hs
          refine nd_aload_n hC dX7_readsOn_39 rfl rfl ?_
          refine nd_dup hC (by rfl) dX7_readsOn_40 ?_
          refine mo_get_head hC hw rfl dX7_readsOn_41 ?_
          refine nd_v_eq (congrArg Value.int (e8)) ?_
          refine nd_iconst hC (v := nI 1) (by rfl) dX7_readsOn_44 ?_
          first | with_reducible refine nd_iaddN hC dX7_readsOn_45 ?_ | refine nd_iadd hC dX7_readsOn_45 ?_
          refine mo_put_head hC hw rfl dX7_readsOn_46 (fun h hw => ?_)
          refine nd_goto hC (tgt := 0) dX7_readsOn_49 (by decide) ?_
          exact ih _ h hw (fun k hk => by rw [va_up_n _ _ (by omega)]; exact fr k hk) (va_up_s _ _ _) (by rw [eb, tx_end_eq, if_pos ⟨hq, hs⟩])
        refine nd_aload_n hC dX7_readsOn_11 rfl rfl ?_
        refine mo_get_tape hC hw rfl dX7_readsOn_12 ?_
        refine nd_aload_n hC dX7_readsOn_15 rfl rfl ?_
        refine mo_get_head hC hw rfl dX7_readsOn_16 ?_
        refine nd_v_eq (congrArg Value.int (e8)) ?_
        refine nd_ialoadN hC hw.tape (by omega) (by decide) dX7_readsOn_19 ?_
        refine nd_v_eq (congrArg Value.int (htp1 q hq)) ?_
        refine nd_bipush hC (v := nI 32) (by rfl) dX7_readsOn_20 ?_
        first | with_reducible refine nd_icmp_eqN hC (tgt := 39) (by omega) (by omega) dX7_readsOn_22 (by decide) (fun hs => ?_) (fun hs => ?_) | refine nd_icmp_eq hC (tgt := 39) dX7_readsOn_22 (by decide) (fun hs => ?_) (fun hs => ?_)
        · exact J2 (by rw [hs]; rfl)
        · refine nd_aload_n hC dX7_readsOn_25 rfl rfl ?_
          refine mo_get_tape hC hw rfl dX7_readsOn_26 ?_
          refine nd_aload_n hC dX7_readsOn_29 rfl rfl ?_
          refine mo_get_head hC hw rfl dX7_readsOn_30 ?_
          refine nd_v_eq (congrArg Value.int (e8)) ?_
          refine nd_ialoadN hC hw.tape (by omega) (by decide) dX7_readsOn_33 ?_
          refine nd_v_eq (congrArg Value.int (htp1 q hq)) ?_
          refine nd_bipush hC (v := nI 10) (by rfl) dX7_readsOn_34 ?_
          first | with_reducible refine nd_icmp_neN hC (tgt := 52) (by omega) (by omega) dX7_readsOn_36 (by decide) (fun hs2 => ?_) (fun hs2 => ?_) | refine nd_icmp_ne hC (tgt := 52) dX7_readsOn_36 (by decide) (fun hs2 => ?_) (fun hs2 => ?_)
          · rw [tx_end_eq, if_neg (fun z => by have z2 := z.2; rw [tx_sp_f hs hs2] at z2; exact absurd z2 (by decide))] at eb
            exact J F1 h hw fr (by rw [eb]; exact e8)
          · exact J2 (by rw [hs2]; rfl)
  refine L1 ?_ p hp F h hw (fun _ _ => rfl) h8 rfl
  clear L1
  intro F1 h hw fr e8
  have e7 : F1 7 = nI T.length := (fr 7 (by omega)).trans h7
  have e12 : F1 12 = nI 0 := (fr 12 (by omega)).trans h12
  have e16 : F1 16 = nI dp := (fr 16 (by omega)).trans h16
  refine nd_aload_n hC dX7_readsOn_52 rfl rfl ?_
  refine nd_aload_n hC dX7_readsOn_53 rfl rfl ?_
  refine mo_get_head hC hw rfl dX7_readsOn_54 ?_
  refine nd_v_eq (congrArg Value.int (e8)) ?_
  refine mo_put_begin hC hw rfl dX7_readsOn_57 (fun h hw => ?_)
  refine nd_aload_n hC dX7_readsOn_60 rfl rfl ?_
  refine mo_get_head hC hw rfl dX7_readsOn_61 ?_
  refine nd_v_eq (congrArg Value.int (e8)) ?_
  refine nd_aload_n hC dX7_readsOn_64 rfl rfl ?_
  refine mo_get_length hC hw rfl dX7_readsOn_65 ?_
  refine nd_v_eq (congrArg Value.int (e7)) ?_
  first | with_reducible refine nd_icmp_ltN hC (tgt := 77) (by omega) (by omega) dX7_readsOn_68 (by decide) (fun hc => ?_) (fun hc => ?_) | refine nd_icmp_lt hC (tgt := 77) dX7_readsOn_68 (by decide) (fun hc => ?_) (fun hc => ?_)
  · have hbb := hby (tx_b T p)
    have ek : tx_h T p = if tx_al (tx_c T p) = true then tx_end tx_al T (tx_b T p) else if tx_dg (tx_c T p) = true then tx_end tx_dg T (tx_b T p) else tx_b T p + 1 := by
      show (if T.length ≤ tx_b T p then _ else _) = _
      rw [if_neg (by omega)]
    have ekk : tx_k T p = if tx_al (tx_c T p) = true then 1 else if tx_dg (tx_c T p) = true then (if 3 < tx_end tx_dg T (tx_b T p) - tx_b T p then 3 else 2) else if tx_sg (tx_c T p) = true then tx_c T p else 3 := by
      show (if T.length ≤ tx_b T p then _ else _) = _
      rw [if_neg (by omega)]
    have hcb : tx_c T p < 256 := hbb
    refine nd_aload_n hC dX7_readsOn_77 rfl rfl ?_
    refine mo_get_tape hC hw rfl dX7_readsOn_78 ?_
    refine nd_aload_n hC dX7_readsOn_81 rfl rfl ?_
    refine mo_get_head hC hw rfl dX7_readsOn_82 ?_
    refine nd_v_eq (congrArg Value.int (e8)) ?_
    refine nd_ialoadN hC hw.tape (by omega) (by decide) dX7_readsOn_85 ?_
    refine nd_v_eq (congrArg Value.int (htp1 _ hc)) ?_
    refine nd_istore_n hC dX7_readsOn_86 (Nat.le_of_ble_eq_true rfl) ?_
    refine nd_iload_n hC dX7_readsOn_87 rfl ?_
    refine mo_callS (As := [_]) (d2 := d - 1) hC rfl lkX7_95 lyX7_95 (Nat.le_of_ble_eq_true rfl) (by omega) rfl (by exact Nat.le_of_ble_eq_true rfl) (Nat.zero_le _) (Nat.zero_le _) dX7_readsOn_88 rfl ((sr_isLetter hg hcb ?_))
    first | with_reducible refine nd_if_eqB hC (tgt := 129) dX7_readsOn_91 (by decide) (fun ha => ?_) (fun ha => ?_) | with_reducible refine nd_if_eqN hC (tgt := 129) (by omega) dX7_readsOn_91 (by decide) (fun ha => ?_) (fun ha => ?_) | refine nd_if_eq hC (tgt := 129) dX7_readsOn_91 (by decide) (fun ha => ?_) (fun ha => ?_)
    · rw [if_neg (by rw [show tx_al (tx_c T p) = false from ha]; decide)] at ek ekk
      refine nd_iload_n hC dX7_readsOn_129 rfl ?_
      refine mo_callS (As := [_]) (d2 := d - 1) hC rfl lkX7_103 lyX7_103 (Nat.le_of_ble_eq_true rfl) (by omega) rfl (by exact Nat.le_of_ble_eq_true rfl) (Nat.zero_le _) (Nat.zero_le _) dX7_readsOn_130 rfl ((sr_isDigit hg hcb ?_))
      first | with_reducible refine nd_if_eqB hC (tgt := 237) dX7_readsOn_133 (by decide) (fun hd2 => ?_) (fun hd2 => ?_) | with_reducible refine nd_if_eqN hC (tgt := 237) (by omega) dX7_readsOn_133 (by decide) (fun hd2 => ?_) (fun hd2 => ?_) | refine nd_if_eq hC (tgt := 237) dX7_readsOn_133 (by decide) (fun hd2 => ?_) (fun hd2 => ?_)
      · rw [if_neg (by rw [show tx_dg (tx_c T p) = false from hd2]; decide)] at ek ekk
        refine nd_aload_n hC dX7_readsOn_237 rfl rfl ?_
        refine nd_iload_n hC dX7_readsOn_238 rfl ?_
        refine mo_callS (As := [_]) (d2 := d - 1) hC rfl lkX7_109 lyX7_109 (Nat.le_of_ble_eq_true rfl) (by omega) rfl (by exact Nat.le_of_ble_eq_true rfl) (Nat.zero_le _) (Nat.zero_le _) dX7_readsOn_239 rfl ((sr_isSignByte hg hcb ?_))
        have J : ∀ kk, tx_k T p = kk → nd_W g mX7_readsOn d 0 0 K X 250 [some (.ref 101), some (.int (nI (tx_c T p)))] [.int (nI kk), .ref 101] h 0 0 := by
          intro kk hkk
          refine mo_put_token hC hw rfl dX7_readsOn_250 (fun h hw => ?_)
          refine nd_aload_n hC dX7_readsOn_253 rfl rfl ?_
          refine nd_dup hC (by rfl) dX7_readsOn_254 ?_
          refine mo_get_head hC hw rfl dX7_readsOn_255 ?_
          refine nd_v_eq (congrArg Value.int (e8)) ?_
          refine nd_iconst hC (v := nI 1) (by rfl) dX7_readsOn_258 ?_
          first | with_reducible refine nd_iaddN hC dX7_readsOn_259 ?_ | refine nd_iadd hC dX7_readsOn_259 ?_
          refine mo_put_head hC hw rfl dX7_readsOn_260 (fun h hw => ?_)
          refine nd_return hC rfl (by omega) (by omega) dX7_readsOn_263 (hk _ h hw (fun k hk => ?_) ?_)
          · rw [va_up_n _ _ (by omega), va_up_n _ _ (by omega), va_up_n _ _ (by omega)]; exact fr k hk
          · refine ⟨e7, by rw [ek]; rfl, rfl, by rw [hkk]; rfl, fun z => ?_, e12, e16⟩
            exfalso
            rw [ekk] at z
            split at z
            · next q => have := tx_sg_in q; omega
            · omega
        first | with_reducible refine nd_if_eqB hC (tgt := 249) dX7_readsOn_242 (by decide) (fun hs => ?_) (fun hs => ?_) | with_reducible refine nd_if_eqN hC (tgt := 249) (by omega) dX7_readsOn_242 (by decide) (fun hs => ?_) (fun hs => ?_) | refine nd_if_eq hC (tgt := 249) dX7_readsOn_242 (by decide) (fun hs => ?_) (fun hs => ?_)
        · rw [if_neg (by rw [show tx_sg (tx_c T p) = false from hs]; decide)] at ekk
          refine nd_iconst hC (v := nI 3) (by rfl) dX7_readsOn_249 ?_
          exact J 3 ekk
        · rw [if_pos (show tx_sg (tx_c T p) = true from hs)] at ekk
          refine nd_iload_n hC dX7_readsOn_245 rfl ?_
          refine nd_goto hC (tgt := 250) dX7_readsOn_246 (by decide) ?_
          exact J _ ekk
      · rw [if_pos (show tx_dg (tx_c T p) = true from hd2)] at ek ekk
        have hgt : tx_b T p < tx_h T p := by rw [ek]; exact tx_end_gt hc hd2
        have hle : tx_h T p ≤ T.length := tx_h_le T hp
        refine nd_aload_n hC dX7_readsOn_136 rfl rfl ?_
        refine nd_iconst hC (v := nI 0) (by rfl) dX7_readsOn_137 ?_
        refine mo_put_value hC hw rfl dX7_readsOn_138 (fun h hw => ?_)
        have J212 : ∀ F2 h, mo_W h0 A F2 B h → (∀ k, (k < 8 ∨ 12 ≤ k) → F2 k = F k) → F2 8 = nI (tx_h T p) → F2 9 = nI (tx_b T p) → F2 11 = nI (tx_nm T (tx_b T p) (tx_h T p - tx_b T p)) → nd_W g mX7_readsOn d 0 0 K X 212 [some (.ref 101), some (.int (nI (tx_c T p)))] [] h 0 0 := by
          intro F2 h hw fr e8 e9 e11
          have JJ : ∀ kk, tx_k T p = kk → nd_W g mX7_readsOn d 0 0 K X 231 [some (.ref 101), some (.int (nI (tx_c T p)))] [.int (nI kk), .ref 101] h 0 0 := by
            intro kk hkk
            refine mo_put_token hC hw rfl dX7_readsOn_231 (fun h hw => ?_)
            refine nd_goto hC (tgt := 263) dX7_readsOn_234 (by decide) ?_
            refine nd_return hC rfl (by omega) (by omega) dX7_readsOn_263 (hk _ h hw (fun k hk => ?_) ?_)
            · rw [va_up_n _ _ (by omega)]; exact fr k hk
            · exact ⟨(fr 7 (by omega)).trans h7, e8, e9, by rw [hkk]; rfl, fun _ => e11, (fr 12 (by omega)).trans h12, (fr 16 (by omega)).trans h16⟩
          rw [← ek] at ekk
          refine nd_aload_n hC dX7_readsOn_212 rfl rfl ?_
          refine nd_aload_n hC dX7_readsOn_213 rfl rfl ?_
          refine mo_get_head hC hw rfl dX7_readsOn_214 ?_
          refine nd_v_eq (congrArg Value.int (e8)) ?_
          refine nd_aload_n hC dX7_readsOn_217 rfl rfl ?_
          refine mo_get_begin hC hw rfl dX7_readsOn_218 ?_
          refine nd_v_eq (congrArg Value.int (e9)) ?_
          first | with_reducible refine nd_isubN hC (by omega) dX7_readsOn_221 ?_ | refine nd_isub hC dX7_readsOn_221 ?_
          refine nd_iconst hC (v := nI 3) (by rfl) dX7_readsOn_222 ?_
          first | with_reducible refine nd_icmp_leN hC (tgt := 230) (by omega) (by omega) dX7_readsOn_223 (by decide) (fun hz => ?_) (fun hz => ?_) | refine nd_icmp_le hC (tgt := 230) dX7_readsOn_223 (by decide) (fun hz => ?_) (fun hz => ?_)
          · rw [if_neg (by omega)] at ekk
            refine nd_iconst hC (v := nI 2) (by rfl) dX7_readsOn_230 ?_
            exact JJ 2 ekk
          · rw [if_pos (by omega)] at ekk
            refine nd_iconst hC (v := nI 3) (by rfl) dX7_readsOn_226 ?_
            refine nd_goto hC (tgt := 231) dX7_readsOn_227 (by decide) ?_
            exact JJ 3 ekk
        have L : ∀ q, q ≤ T.length → tx_b T p ≤ q → tx_end tx_dg T q = tx_h T p → ∀ F2 h, mo_W h0 A F2 B h → (∀ k, (k < 8 ∨ 12 ≤ k) → F2 k = F k) → F2 8 = nI q → F2 9 = nI (tx_b T p) → F2 11 = nI (tx_nm T (tx_b T p) (q - tx_b T p)) → nd_W g mX7_readsOn d 0 0 K X 141 [some (.ref 101), some (.int (nI (tx_c T p)))] [] h 0 0 := by
          refine nd_for _ _ ?_ ?_
          · intro hq1 hq2 F2 h hw fr e8 e9 e11
            have e7 : F2 7 = nI T.length := (fr 7 (by omega)).trans h7
            rw [tx_end_eq, if_neg (by omega)] at hq2
            have e0 : T.getD T.length 0 = 0 := by rw [List.getD_eq_getElem?_getD, List.getElem?_eq_none (by omega)]; rfl
            refine nd_aload_n hC dX7_readsOn_141 rfl rfl ?_
            refine nd_aload_n hC dX7_readsOn_142 rfl rfl ?_
            refine mo_get_head hC hw rfl dX7_readsOn_143 ?_
            refine nd_v_eq (congrArg Value.int (e8)) ?_
            refine mo_callV (As := [_]) (d2 := d - 1) hC hw rfl lkX7_99 lyX7_99 (Nat.le_of_ble_eq_true rfl) (by omega) rfl (by exact Nat.le_of_ble_eq_true rfl) (Nat.zero_le _) (Nat.zero_le _) dX7_readsOn_146 rfl ((sr_see hg hw htp e7 (Nat.le_refl _) ?_))
            refine mo_callS (As := [_]) (d2 := d - 1) hC rfl lkX7_103 lyX7_103 (Nat.le_of_ble_eq_true rfl) (by omega) rfl (by exact Nat.le_of_ble_eq_true rfl) (Nat.zero_le _) (Nat.zero_le _) dX7_readsOn_149 rfl ((sr_isDigit hg (hby _) ?_))
            first | with_reducible refine nd_if_eqB hC (tgt := 212) dX7_readsOn_152 (by decide) (fun hz => ?_) (fun hz => ?_) | with_reducible refine nd_if_eqN hC (tgt := 212) (by omega) dX7_readsOn_152 (by decide) (fun hz => ?_) (fun hz => ?_) | refine nd_if_eq hC (tgt := 212) dX7_readsOn_152 (by decide) (fun hz => ?_) (fun hz => ?_)
            · exact J212 F2 h hw fr (by rw [← hq2]; exact e8) e9 (by rw [← hq2]; exact e11)
            · rw [e0] at hz; exact absurd hz (by decide)
          · intro q hq ih hq1 hq2 F2 h hw fr e8 e9 e11
            have e7 : F2 7 = nI T.length := (fr 7 (by omega)).trans h7
            have hqb := hby q
            refine nd_aload_n hC dX7_readsOn_141 rfl rfl ?_
            refine nd_aload_n hC dX7_readsOn_142 rfl rfl ?_
            refine mo_get_head hC hw rfl dX7_readsOn_143 ?_
            refine nd_v_eq (congrArg Value.int (e8)) ?_
            refine mo_callV (As := [_]) (d2 := d - 1) hC hw rfl lkX7_99 lyX7_99 (Nat.le_of_ble_eq_true rfl) (by omega) rfl (by exact Nat.le_of_ble_eq_true rfl) (Nat.zero_le _) (Nat.zero_le _) dX7_readsOn_146 rfl ((sr_see hg hw htp e7 (by omega) ?_))
            refine mo_callS (As := [_]) (d2 := d - 1) hC rfl lkX7_103 lyX7_103 (Nat.le_of_ble_eq_true rfl) (by omega) rfl (by exact Nat.le_of_ble_eq_true rfl) (Nat.zero_le _) (Nat.zero_le _) dX7_readsOn_149 rfl ((sr_isDigit hg (hby _) ?_))
            first | with_reducible refine nd_if_eqB hC (tgt := 212) dX7_readsOn_152 (by decide) (fun hz => ?_) (fun hz => ?_) | with_reducible refine nd_if_eqN hC (tgt := 212) (by omega) dX7_readsOn_152 (by decide) (fun hz => ?_) (fun hz => ?_) | refine nd_if_eq hC (tgt := 212) dX7_readsOn_152 (by decide) (fun hz => ?_) (fun hz => ?_)
            · rw [tx_end_eq, if_neg (fun z => by rw [hz] at z; exact absurd z.2 (by decide))] at hq2
              exact J212 F2 h hw fr (by rw [← hq2]; exact e8) e9 (by rw [← hq2]; exact e11)
            · rw [tx_end_eq, if_pos ⟨hq, hz⟩] at hq2
              have hz48 : 48 ≤ T.getD q 0 := by
                unfold tx_dg at hz
                rw [Bool.and_eq_true] at hz
                exact of_decide_eq_true hz.1
              have J196 : nd_W g mX7_readsOn d 0 0 K X 196 [some (.ref 101), some (.int (nI (tx_c T p)))] [.int (nI (tx_nm T (tx_b T p) (q + 1 - tx_b T p))), .ref 101] h 0 0 := by
                refine mo_put_value hC hw rfl dX7_readsOn_196 (fun h hw => ?_)
                refine nd_aload_n hC dX7_readsOn_199 rfl rfl ?_
                refine nd_dup hC (by rfl) dX7_readsOn_200 ?_
                refine mo_get_head hC hw rfl dX7_readsOn_201 ?_
                refine nd_v_eq (congrArg Value.int (e8)) ?_
                refine nd_iconst hC (v := nI 1) (by rfl) dX7_readsOn_204 ?_
                first | with_reducible refine nd_iaddN hC dX7_readsOn_205 ?_ | refine nd_iadd hC dX7_readsOn_205 ?_
                refine mo_put_head hC hw rfl dX7_readsOn_206 (fun h hw => ?_)
                refine nd_goto hC (tgt := 141) dX7_readsOn_209 (by decide) ?_
                exact ih (by omega) hq2 _ h hw (fun k hk => by rw [va_up_n _ _ (by omega), va_up_n _ _ (by omega)]; exact fr k hk) (va_up_s _ _ _) e9 rfl
              have en : tx_nm T (tx_b T p) (q + 1 - tx_b T p) = if q - tx_b T p < 3 then 10 * tx_nm T (tx_b T p) (q - tx_b T p) + T.getD q 0 - 48 else tx_nm T (tx_b T p) (q - tx_b T p) := by
                rw [show q + 1 - tx_b T p = (q - tx_b T p) + 1 by omega]
                show (if q - tx_b T p < 3 then 10 * tx_nm T (tx_b T p) (q - tx_b T p) + T.getD (tx_b T p + (q - tx_b T p)) 0 - 48 else tx_nm T (tx_b T p) (q - tx_b T p)) = _
                rw [show tx_b T p + (q - tx_b T p) = q by omega]
              refine nd_aload_n hC dX7_readsOn_155 rfl rfl ?_
              refine nd_aload_n hC dX7_readsOn_156 rfl rfl ?_
              refine mo_get_head hC hw rfl dX7_readsOn_157 ?_
              refine nd_v_eq (congrArg Value.int (e8)) ?_
              refine nd_aload_n hC dX7_readsOn_160 rfl rfl ?_
              refine mo_get_begin hC hw rfl dX7_readsOn_161 ?_
              refine nd_v_eq (congrArg Value.int (e9)) ?_
              first | with_reducible refine nd_isubN hC (by omega) dX7_readsOn_164 ?_ | refine nd_isub hC dX7_readsOn_164 ?_
              refine nd_iconst hC (v := nI 3) (by rfl) dX7_readsOn_165 ?_
              first | with_reducible refine nd_icmp_geN hC (tgt := 192) (by omega) (by omega) dX7_readsOn_166 (by decide) (fun h3 => ?_) (fun h3 => ?_) | refine nd_icmp_ge hC (tgt := 192) dX7_readsOn_166 (by decide) (fun h3 => ?_) (fun h3 => ?_)
              · rw [if_neg (by omega)] at en
                rw [en] at J196
                refine nd_aload_n hC dX7_readsOn_192 rfl rfl ?_
                refine mo_get_value hC hw rfl dX7_readsOn_193 ?_
                refine nd_v_eq (congrArg Value.int (e11)) ?_
                exact J196
              · rw [if_pos (by omega)] at en
                rw [en] at J196
                refine nd_bipush hC (v := nI 10) (by rfl) dX7_readsOn_169 ?_
                refine nd_aload_n hC dX7_readsOn_171 rfl rfl ?_
                refine mo_get_value hC hw rfl dX7_readsOn_172 ?_
                refine nd_v_eq (congrArg Value.int (e11)) ?_
                first | with_reducible refine nd_imulN hC dX7_readsOn_175 ?_ | refine nd_imul hC dX7_readsOn_175 ?_
                refine nd_aload_n hC dX7_readsOn_176 rfl rfl ?_
                refine mo_get_tape hC hw rfl dX7_readsOn_177 ?_
                refine nd_aload_n hC dX7_readsOn_180 rfl rfl ?_
                refine mo_get_head hC hw rfl dX7_readsOn_181 ?_
                refine nd_v_eq (congrArg Value.int (e8)) ?_
                refine nd_ialoadN hC hw.tape (by omega) (by decide) dX7_readsOn_184 ?_
                refine nd_v_eq (congrArg Value.int (htp1 q hq)) ?_
                first | with_reducible refine nd_iaddN hC dX7_readsOn_185 ?_ | refine nd_iadd hC dX7_readsOn_185 ?_
                refine nd_bipush hC (v := nI 48) (by rfl) dX7_readsOn_186 ?_
                first | with_reducible refine nd_isubN hC (by omega) dX7_readsOn_188 ?_ | refine nd_isub hC dX7_readsOn_188 ?_
                refine nd_goto hC (tgt := 196) dX7_readsOn_189 (by decide) ?_
                exact J196
        exact L (tx_b T p) hbl (Nat.le_refl _) ek.symm _ h hw (fun k hk => by rw [va_up_n _ _ (by omega), va_up_n _ _ (by omega)]; exact fr k hk) e8 rfl (by rw [Nat.sub_self]; rfl)
    · rw [if_pos (show tx_al (tx_c T p) = true from ha)] at ek ekk
      have J121 : ∀ F2 h, mo_W h0 A F2 B h → (∀ k, (k < 8 ∨ 12 ≤ k) → F2 k = F k) → F2 8 = nI (tx_h T p) → F2 9 = nI (tx_b T p) → nd_W g mX7_readsOn d 0 0 K X 121 [some (.ref 101), some (.int (nI (tx_c T p)))] [] h 0 0 := by
        intro F2 h hw fr e8 e9
        refine nd_aload_n hC dX7_readsOn_121 rfl rfl ?_
        refine nd_iconst hC (v := nI 1) (by rfl) dX7_readsOn_122 ?_
        refine mo_put_token hC hw rfl dX7_readsOn_123 (fun h hw => ?_)
        refine nd_goto hC (tgt := 263) dX7_readsOn_126 (by decide) ?_
        refine nd_return hC rfl (by omega) (by omega) dX7_readsOn_263 (hk _ h hw (fun k hk => ?_) ?_)
        · rw [va_up_n _ _ (by omega)]; exact fr k hk
        · exact ⟨(fr 7 (by omega)).trans h7, e8, e9, by rw [ekk]; rfl, fun z => by omega, (fr 12 (by omega)).trans h12, (fr 16 (by omega)).trans h16⟩
      have L : ∀ q, q ≤ T.length → tx_end tx_al T q = tx_h T p → ∀ F2 h, mo_W h0 A F2 B h → (∀ k, (k < 8 ∨ 12 ≤ k) → F2 k = F k) → F2 8 = nI q → F2 9 = nI (tx_b T p) → nd_W g mX7_readsOn d 0 0 K X 94 [some (.ref 101), some (.int (nI (tx_c T p)))] [] h 0 0 := by
        refine nd_for _ _ ?_ ?_
        · intro hq2 F2 h hw fr e8 e9
          have e7 : F2 7 = nI T.length := (fr 7 (by omega)).trans h7
          rw [tx_end_eq, if_neg (by omega)] at hq2
          have e0 : T.getD T.length 0 = 0 := by rw [List.getD_eq_getElem?_getD, List.getElem?_eq_none (by omega)]; rfl
          refine nd_aload_n hC dX7_readsOn_94 rfl rfl ?_
          refine nd_aload_n hC dX7_readsOn_95 rfl rfl ?_
          refine mo_get_head hC hw rfl dX7_readsOn_96 ?_
          refine nd_v_eq (congrArg Value.int (e8)) ?_
          refine mo_callV (As := [_]) (d2 := d - 1) hC hw rfl lkX7_99 lyX7_99 (Nat.le_of_ble_eq_true rfl) (by omega) rfl (by exact Nat.le_of_ble_eq_true rfl) (Nat.zero_le _) (Nat.zero_le _) dX7_readsOn_99 rfl ((sr_see hg hw htp e7 (Nat.le_refl _) ?_))
          refine mo_callS (As := [_]) (d2 := d - 1) hC rfl lkX7_95 lyX7_95 (Nat.le_of_ble_eq_true rfl) (by omega) rfl (by exact Nat.le_of_ble_eq_true rfl) (Nat.zero_le _) (Nat.zero_le _) dX7_readsOn_102 rfl ((sr_isLetter hg (hby _) ?_))
          first | with_reducible refine nd_if_eqB hC (tgt := 121) dX7_readsOn_105 (by decide) (fun hz => ?_) (fun hz => ?_) | with_reducible refine nd_if_eqN hC (tgt := 121) (by omega) dX7_readsOn_105 (by decide) (fun hz => ?_) (fun hz => ?_) | refine nd_if_eq hC (tgt := 121) dX7_readsOn_105 (by decide) (fun hz => ?_) (fun hz => ?_)
          · exact J121 F2 h hw fr (by rw [← hq2]; exact e8) e9
          · rw [e0] at hz; exact absurd hz (by decide)
        · intro q hq ih hq2 F2 h hw fr e8 e9
          have e7 : F2 7 = nI T.length := (fr 7 (by omega)).trans h7
          refine nd_aload_n hC dX7_readsOn_94 rfl rfl ?_
          refine nd_aload_n hC dX7_readsOn_95 rfl rfl ?_
          refine mo_get_head hC hw rfl dX7_readsOn_96 ?_
          refine nd_v_eq (congrArg Value.int (e8)) ?_
          refine mo_callV (As := [_]) (d2 := d - 1) hC hw rfl lkX7_99 lyX7_99 (Nat.le_of_ble_eq_true rfl) (by omega) rfl (by exact Nat.le_of_ble_eq_true rfl) (Nat.zero_le _) (Nat.zero_le _) dX7_readsOn_99 rfl ((sr_see hg hw htp e7 (by omega) ?_))
          refine mo_callS (As := [_]) (d2 := d - 1) hC rfl lkX7_95 lyX7_95 (Nat.le_of_ble_eq_true rfl) (by omega) rfl (by exact Nat.le_of_ble_eq_true rfl) (Nat.zero_le _) (Nat.zero_le _) dX7_readsOn_102 rfl ((sr_isLetter hg (hby _) ?_))
          first | with_reducible refine nd_if_eqB hC (tgt := 121) dX7_readsOn_105 (by decide) (fun hz => ?_) (fun hz => ?_) | with_reducible refine nd_if_eqN hC (tgt := 121) (by omega) dX7_readsOn_105 (by decide) (fun hz => ?_) (fun hz => ?_) | refine nd_if_eq hC (tgt := 121) dX7_readsOn_105 (by decide) (fun hz => ?_) (fun hz => ?_)
          · rw [tx_end_eq, if_neg (fun z => by rw [hz] at z; exact absurd z.2 (by decide))] at hq2
            exact J121 F2 h hw fr (by rw [← hq2]; exact e8) e9
          · rw [tx_end_eq, if_pos ⟨hq, hz⟩] at hq2
            refine nd_aload_n hC dX7_readsOn_108 rfl rfl ?_
            refine nd_dup hC (by rfl) dX7_readsOn_109 ?_
            refine mo_get_head hC hw rfl dX7_readsOn_110 ?_
            refine nd_v_eq (congrArg Value.int (e8)) ?_
            refine nd_iconst hC (v := nI 1) (by rfl) dX7_readsOn_113 ?_
            first | with_reducible refine nd_iaddN hC dX7_readsOn_114 ?_ | refine nd_iadd hC dX7_readsOn_114 ?_
            refine mo_put_head hC hw rfl dX7_readsOn_115 (fun h hw => ?_)
            refine nd_goto hC (tgt := 94) dX7_readsOn_118 (by decide) ?_
            exact ih hq2 _ h hw (fun k hk => by rw [va_up_n _ _ (by omega)]; exact fr k hk) (va_up_s _ _ _) e9
      exact L (tx_b T p) hbl ek.symm _ h hw (fun k hk => by rw [va_up_n _ _ (by omega)]; exact fr k hk) e8 rfl
  · have e0 : tx_h T p = tx_b T p := by
      show (if T.length ≤ tx_b T p then _ else _) = _
      rw [if_pos hc]
    have e1 : tx_k T p = 0 := by
      show (if T.length ≤ tx_b T p then _ else _) = _
      rw [if_pos hc]
    refine nd_aload_n hC dX7_readsOn_71 rfl rfl ?_
    refine nd_iconst hC (v := nI 0) (by rfl) dX7_readsOn_72 ?_
    refine mo_put_token hC hw rfl dX7_readsOn_73 (fun h hw => ?_)
    refine nd_return hC rfl (by omega) (by omega) dX7_readsOn_76 (hk _ h hw (fun k hk => ?_) ?_)
    · rw [va_up_n _ _ (by omega), va_up_n _ _ (by omega)]; exact fr k hk
    · exact ⟨e7, by rw [e0]; exact e8, rfl, by rw [e1]; rfl, fun z => by omega, e12, e16⟩
end RT1

