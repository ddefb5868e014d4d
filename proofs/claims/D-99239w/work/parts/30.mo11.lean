set_option maxRecDepth 100000
section MO11
variable {g : nd_G} {d : Nat} {K : nd_K} {h h0 : nd_H} {A : Nat → Nat → Int32} {F : Nat → Int32} {B : Nat → Nat → Int64} {f : Nat → Int32}
theorem sp_isNew (hg : nd_OK g) (hw : mo_W h0 A F B h) {s : List Int64} {x : Int64} (ht : tb_ok (B 35) (A 36) (F 37) s) (hl : s.length < tb_T) (hk : ∀ fa fb h2, mo_tbx (A 36) (F 37) fa → tb_ok fb fa (F 37) (if x ∈ s then s else x :: s) → mo_W h0 (va_up A 36 fa) F (va_up B 35 fb) h2 → K (.inl (some (.int (nd_b (decide (x ∉ s)))))) h2) : nd_M g mX7_isNew d 0 0 [.ref 101, .long x] h K := by
  obtain ⟨fj, hfj, hfree⟩ := tb_free ht hl
  rw [tb_T_eq] at hfj
  refine nd_enter hg (by decide) rfl (Nat.le_of_ble_eq_true rfl) (fun X hC => ?_)
  refine nd_lload_n hC dX7_isNew_0 rfl ?_
  refine nd_ldc2 hC q3254 dX7_isNew_1 ?_
  refine nd_v_eq (y := .long (lN 2654435761)) (by rfl) ?_
  first | with_reducible refine nd_lmulN hC dX7_isNew_4 ?_ | refine nd_lmul hC dX7_isNew_4 ?_
  refine nd_bipush hC (v := nI 16) (by rfl) dX7_isNew_5 ?_
  refine nd_lushr hC dX7_isNew_7 ?_
  refine nd_ldc2 hC q3255 dX7_isNew_8 ?_
  refine nd_v_eq (y := .long (lN 65536)) (by rfl) ?_
  refine nd_lrem hC (by decide) dX7_isNew_11 ?_
  first | with_reducible refine nd_l2iN hC dX7_isNew_12 ?_ | refine nd_l2i hC dX7_isNew_12 ?_
  have e1 : (((x * 2654435761).toUInt64 >>> ((nI 16).toInt64.toUInt64 &&& Int64.toUInt64 63)).toInt64 - ((x * 2654435761).toUInt64 >>> ((nI 16).toInt64.toUInt64 &&& Int64.toUInt64 63)).toInt64 / lN 65536 * lN 65536).toInt32 = nI (tb_p x 0) := by
    obtain ⟨m, hm, e⟩ := wb_of (x * 2654435761)
    have e3 : tb_h x = (m / 65536) % 65536 := by unfold tb_h; rw [e, wb_tn hm]
    rw [e, wb_shr hm (by decide), pk_lRem (by omega) (by decide) (by decide), lN_i]
    unfold tb_p
    rw [e3, Nat.add_zero, Nat.mod_mod]
  refine nd_v_eq (y := .int (nI (tb_p x 0))) (congrArg Value.int e1) ?_
  refine nd_istore_n hC dX7_isNew_13 (Nat.le_of_ble_eq_true rfl) ?_
  -- the place is free: it is new
  have JF : ∀ m, m < 65536 → ¬ A 36 (tb_p x m) = F 37 → (∀ i, i < m → A 36 (tb_p x i) = F 37 ∧ B 35 (tb_p x i) ≠ x) → nd_W g mX7_isNew d 0 0 K X 48 [some (.ref 101), some (.long x), none, some (.int (nI (tb_p x m)))] [] h 0 0 := by
    intro m hm hfr hi
    have hp := tb_p_lt x m
    have hx := tb_miss ht hfr (fun i q => (hi i q).2)
    have hput : tb_ok (vp_updL (B 35) (tb_p x m) x) (upd (A 36) (tb_p x m) (F 37)) (F 37) (if x ∈ s then s else x :: s) := by
      rw [if_neg hx]; exact tb_put ht (by rw [tb_T_eq]; exact hm) hfr (fun i q => (hi i q).1) hx
    have htx : mo_tbx (A 36) (F 37) (upd (A 36) (tb_p x m) (F 37)) := fun j => by
      by_cases q : j = tb_p x m
      · exact Or.inr (by subst q; exact upd_s)
      · exact Or.inl (upd_n q)
    rw [decide_eq_true hx] at hk
    refine nd_aload_n hC dX7_isNew_48 rfl rfl ?_
    refine mo_get_metBy hC hw rfl dX7_isNew_49 ?_
    refine nd_iload_n hC dX7_isNew_52 rfl ?_
    refine nd_ialoadN hC hw.metBy (by omega) (by decide) dX7_isNew_53 ?_
    refine nd_aload_n hC dX7_isNew_54 rfl rfl ?_
    refine mo_get_turn hC hw rfl dX7_isNew_55 ?_
    refine nd_icmp_ne hC (tgt := 63) dX7_isNew_58 (by decide) (fun hc => ?_) (fun hc => absurd hc hfr)
    refine nd_aload_n hC dX7_isNew_63 rfl rfl ?_
    refine mo_get_metBy hC hw rfl dX7_isNew_64 ?_
    refine nd_iload_n hC dX7_isNew_67 rfl ?_
    refine nd_aload_n hC dX7_isNew_68 rfl rfl ?_
    refine mo_get_turn hC hw rfl dX7_isNew_69 ?_
    refine mo_ast_metBy hC hw (by omega) dX7_isNew_72 (fun h hw => ?_)
    try simp only [va_up_up, va_up_s] at hw
    refine nd_aload_n hC dX7_isNew_73 rfl rfl ?_
    refine mo_get_met hC hw rfl dX7_isNew_74 ?_
    refine nd_iload_n hC dX7_isNew_77 rfl ?_
    refine nd_lload_n hC dX7_isNew_78 rfl ?_
    refine mo_ast_met hC hw (by omega) dX7_isNew_79 (fun h hw => ?_)
    try simp only [va_up_up, va_up_s] at hw
    refine nd_iconst hC (v := nI 1) (by rfl) dX7_isNew_80 ?_
    refine nd_ireturn hC rfl (by first | rfl | exact nd_b_nar _) (by omega) (by omega) dX7_isNew_81 ((hk _ _ h htx hput hw))
  -- it is there
  have JH : ∀ m, A 36 (tb_p x m) = F 37 → B 35 (tb_p x m) = x → nd_W g mX7_isNew d 0 0 K X 48 [some (.ref 101), some (.long x), none, some (.int (nI (tb_p x m)))] [] h 0 0 := by
    intro m h1 h2
    have hp := tb_p_lt x m
    have hx := tb_hit ht h1 h2
    rw [decide_eq_false (by simpa using hx)] at hk
    refine nd_aload_n hC dX7_isNew_48 rfl rfl ?_
    refine mo_get_metBy hC hw rfl dX7_isNew_49 ?_
    refine nd_iload_n hC dX7_isNew_52 rfl ?_
    refine nd_ialoadN hC hw.metBy (by omega) (by decide) dX7_isNew_53 ?_
    refine nd_aload_n hC dX7_isNew_54 rfl rfl ?_
    refine mo_get_turn hC hw rfl dX7_isNew_55 ?_
    refine nd_icmp_ne hC (tgt := 63) dX7_isNew_58 (by decide) (fun hc => absurd h1 hc) (fun hc => ?_)
    refine nd_iconst hC (v := nI 0) (by rfl) dX7_isNew_61 ?_
    refine nd_ireturn hC rfl (by first | rfl | exact nd_b_nar _) (by omega) (by omega) dX7_isNew_62 ((hk (A 36) (B 35) h mo_tbx.rfl (by rw [if_pos hx]; exact ht) (by rw [va_up_id, va_up_id]; exact hw)))
  have L : ∀ k m, (fj + 65536 - tb_p x m) % 65536 = k → k + m < 65536 → (∀ i, i < m → A 36 (tb_p x i) = F 37 ∧ B 35 (tb_p x i) ≠ x) → nd_W g mX7_isNew d 0 0 K X 14 [some (.ref 101), some (.long x), none, some (.int (nI (tb_p x m)))] [] h 0 0 := by
    intro k
    induction k with
    | zero =>
      intro m e hm hi
      have hp := tb_p_lt x m
      have ef : tb_p x m = fj := by omega
      rw [← ef] at hfree
      refine nd_aload_n hC dX7_isNew_14 rfl rfl ?_
      refine mo_get_metBy hC hw rfl dX7_isNew_15 ?_
      refine nd_iload_n hC dX7_isNew_18 rfl ?_
      refine nd_ialoadN hC hw.metBy (by omega) (by decide) dX7_isNew_19 ?_
      refine nd_aload_n hC dX7_isNew_20 rfl rfl ?_
      refine mo_get_turn hC hw rfl dX7_isNew_21 ?_
      refine nd_icmp_ne hC (tgt := 48) dX7_isNew_24 (by decide) (fun hc => ?_) (fun hc => absurd hc hfree)
      exact JF m (by omega) hfree hi
    | succ k ih =>
      intro m e hm hi
      have hp := tb_p_lt x m
      have hnext : (tb_p x m + 1) % 65536 = tb_p x (m + 1) := by unfold tb_p; omega
      refine nd_aload_n hC dX7_isNew_14 rfl rfl ?_
      refine mo_get_metBy hC hw rfl dX7_isNew_15 ?_
      refine nd_iload_n hC dX7_isNew_18 rfl ?_
      refine nd_ialoadN hC hw.metBy (by omega) (by decide) dX7_isNew_19 ?_
      refine nd_aload_n hC dX7_isNew_20 rfl rfl ?_
      refine mo_get_turn hC hw rfl dX7_isNew_21 ?_
      refine nd_icmp_ne hC (tgt := 48) dX7_isNew_24 (by decide) (fun hc => ?_) (fun hc => ?_)
      · exact JF m (by omega) hc hi
      · refine nd_aload_n hC dX7_isNew_27 rfl rfl ?_
        refine mo_get_met hC hw rfl dX7_isNew_28 ?_
        refine nd_iload_n hC dX7_isNew_31 rfl ?_
        refine nd_laloadN hC hw.met (by omega) (by decide) dX7_isNew_32 ?_
        refine nd_lload_n hC dX7_isNew_33 rfl ?_
        refine nd_lcmp_eq hC (tgt := 48) dX7_isNew_34 dX7_isNew_35 (by decide) (fun hq => ?_) (fun hq => ?_)
        · exact JH m hc hq
        · refine nd_iload_n hC dX7_isNew_38 rfl ?_
          refine nd_iconst hC (v := nI 1) (by rfl) dX7_isNew_39 ?_
          first | with_reducible refine nd_iaddN hC dX7_isNew_40 ?_ | refine nd_iadd hC dX7_isNew_40 ?_
          refine nd_ldcI hC q2715 dX7_isNew_41 ?_
          refine nd_v_eq (y := .int (nI 65536)) (by rfl) ?_
          first | with_reducible refine nd_iremN hC (by omega) (by omega) (by omega) dX7_isNew_43 ?_ | refine nd_irem hC (by decide) dX7_isNew_43 ?_
          refine nd_istore_n hC dX7_isNew_44 (Nat.le_of_ble_eq_true rfl) ?_
          refine nd_goto hC (tgt := 14) dX7_isNew_45 (by decide) ?_
          rw [hnext]
          refine ih (m + 1) (by rw [← hnext]; omega) (by omega) (fun i q => ?_)
          by_cases e2 : i = m
          · subst e2; exact ⟨hc, hq⟩
          · exact hi i (by omega)
  exact L _ 0 rfl (by omega) (fun i q => by omega)
end MO11

