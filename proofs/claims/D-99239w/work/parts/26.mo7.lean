set_option maxRecDepth 100000
section MO7
variable {g : nd_G} {d : Nat} {K : nd_K} {h h0 : nd_H} {A : Nat → Nat → Int32} {F : Nat → Int32} {B : Nat → Nat → Int64} {f : Nat → Int32}
theorem sp_bound (hg : nd_OK g) {v : Int64} (hk : K (.inl (some (.int (lw_bd v)))) h) : nd_M g mX7_bound d 0 0 [.long v] h K := by
  refine nd_enter hg (by decide) rfl (Nat.le_of_ble_eq_true rfl) (fun X hC => ?_)
  refine nd_ldc2 hC q3122 dX7_bound_0 ?_
  refine nd_ldc2 hC q3123 dX7_bound_3 ?_
  refine nd_v_eq (y := .long (lN 1000000)) (by rfl) ?_
  refine nd_lload_n hC dX7_bound_6 rfl ?_
  refine nd_mminL hC q3124 (by omega) (by omega) (by exact Nat.le_of_ble_eq_true rfl) dX7_bound_7 ?_
  refine nd_mmaxL hC q3125 (by omega) (by omega) (by exact Nat.le_of_ble_eq_true rfl) dX7_bound_10 ?_
  first | with_reducible refine nd_l2iN hC dX7_bound_13 ?_ | refine nd_l2i hC dX7_bound_13 ?_
  refine nd_ireturn hC rfl (by first | rfl | exact nd_b_nar _) (by omega) (by omega) dX7_bound_14 (hk)
theorem sp_done (hg : nd_OK g) (hd : 1 ≤ d) {c : Nat} {a b : Int64} (h1 : 10 ≤ c) (h2 : c ≤ 17) (hk : K (.inl (some (.int (lw_dn c a b)))) h) : nd_M g mX7_done d 0 0 [.int (nI c), .long a, .long b] h K := by
  refine nd_enter hg (by decide) rfl (Nat.le_of_ble_eq_true rfl) (fun X hC => ?_)
  refine nd_iload_n hC dX7_done_0 rfl ?_
  have key : ∀ x y : Int64, (¬ x < y) ↔ y ≤ x := fun x y => by rw [Int64.lt_iff_toInt_lt, Int64.le_iff_toInt_le]; omega
  obtain rfl | rfl | rfl | rfl | rfl | rfl | rfl | rfl : c = 10 ∨ c = 11 ∨ c = 12 ∨ c = 13 ∨ c = 14 ∨ c = 15 ∨ c = 16 ∨ c = 17 := by omega
  · refine nd_tableIn hC (tgt := 44) dX7_done_1 (by decide) (by decide) (by rfl) (by decide) ?_
    refine nd_lload_n hC dX7_done_44 rfl ?_
    refine nd_lload_n hC dX7_done_45 rfl ?_
    first | with_reducible refine nd_laddN hC dX7_done_46 ?_ | refine nd_ladd hC dX7_done_46 ?_
    refine mo_callS (As := [_]) (d2 := d - 1) hC rfl lkX7_317 lyX7_317 (Nat.le_of_ble_eq_true rfl) (by omega) rfl (by exact Nat.le_of_ble_eq_true rfl) (Nat.zero_le _) (Nat.zero_le _) dX7_done_47 rfl ((sp_bound hg ?_))
    refine nd_ireturn hC rfl (by first | rfl | exact nd_b_nar _) (by omega) (by omega) dX7_done_50 (hk)
  · refine nd_tableIn hC (tgt := 51) dX7_done_1 (by decide) (by decide) (by rfl) (by decide) ?_
    refine nd_lload_n hC dX7_done_51 rfl ?_
    refine nd_lload_n hC dX7_done_52 rfl ?_
    refine nd_lsub hC dX7_done_53 ?_
    refine mo_callS (As := [_]) (d2 := d - 1) hC rfl lkX7_317 lyX7_317 (Nat.le_of_ble_eq_true rfl) (by omega) rfl (by exact Nat.le_of_ble_eq_true rfl) (Nat.zero_le _) (Nat.zero_le _) dX7_done_54 rfl ((sp_bound hg ?_))
    refine nd_ireturn hC rfl (by first | rfl | exact nd_b_nar _) (by omega) (by omega) dX7_done_57 (hk)
  · refine nd_tableIn hC (tgt := 58) dX7_done_1 (by decide) (by decide) (by rfl) (by decide) ?_
    refine nd_lload_n hC dX7_done_58 rfl ?_
    refine nd_lload_n hC dX7_done_59 rfl ?_
    first | with_reducible refine nd_lmulN hC dX7_done_60 ?_ | refine nd_lmul hC dX7_done_60 ?_
    refine mo_callS (As := [_]) (d2 := d - 1) hC rfl lkX7_317 lyX7_317 (Nat.le_of_ble_eq_true rfl) (by omega) rfl (by exact Nat.le_of_ble_eq_true rfl) (Nat.zero_le _) (Nat.zero_le _) dX7_done_61 rfl ((sp_bound hg ?_))
    refine nd_ireturn hC rfl (by first | rfl | exact nd_b_nar _) (by omega) (by omega) dX7_done_64 (hk)
  · refine nd_tableIn hC (tgt := 65) dX7_done_1 (by decide) (by decide) (by rfl) (by decide) ?_
    refine nd_lload_n hC dX7_done_65 rfl ?_
    refine nd_lload_n hC dX7_done_66 rfl ?_
    refine nd_lcmp_ne hC (tgt := 75) dX7_done_67 dX7_done_68 (by decide) (fun hc => ?_) (fun hc => ?_)
    · refine nd_iconst hC (v := nI 0) (by rfl) dX7_done_75 ?_
      refine nd_ireturn hC rfl (by first | rfl | exact nd_b_nar _) (by omega) (by omega) dX7_done_76 ((by simpa [lw_dn, nd_b, hc] using hk))
    · refine nd_iconst hC (v := nI 1) (by rfl) dX7_done_71 ?_
      refine nd_goto hC (tgt := 76) dX7_done_72 (by decide) ?_
      refine nd_ireturn hC rfl (by first | rfl | exact nd_b_nar _) (by omega) (by omega) dX7_done_76 ((by simpa [lw_dn, nd_b, hc] using hk))
  · refine nd_tableIn hC (tgt := 77) dX7_done_1 (by decide) (by decide) (by rfl) (by decide) ?_
    refine nd_lload_n hC dX7_done_77 rfl ?_
    refine nd_lload_n hC dX7_done_78 rfl ?_
    refine nd_lcmp_ge hC (tgt := 87) dX7_done_79 dX7_done_80 (by decide) (fun hc => ?_) (fun hc => ?_)
    · refine nd_iconst hC (v := nI 0) (by rfl) dX7_done_87 ?_
      refine nd_ireturn hC rfl (by first | rfl | exact nd_b_nar _) (by omega) (by omega) dX7_done_88 ((by simpa [lw_dn, nd_b, (key a b).mpr hc] using hk))
    · refine nd_iconst hC (v := nI 1) (by rfl) dX7_done_83 ?_
      refine nd_goto hC (tgt := 88) dX7_done_84 (by decide) ?_
      refine nd_ireturn hC rfl (by first | rfl | exact nd_b_nar _) (by omega) (by omega) dX7_done_88 ((by simpa [lw_dn, nd_b, Decidable.of_not_not (fun z => hc ((key a b).mp z))] using hk))
  · refine nd_tableIn hC (tgt := 89) dX7_done_1 (by decide) (by decide) (by rfl) (by decide) ?_
    refine nd_lload_n hC dX7_done_89 rfl ?_
    refine nd_lload_n hC dX7_done_90 rfl ?_
    refine nd_lcmp_le hC (tgt := 99) dX7_done_91 dX7_done_92 (by decide) (fun hc => ?_) (fun hc => ?_)
    · refine nd_iconst hC (v := nI 0) (by rfl) dX7_done_99 ?_
      refine nd_ireturn hC rfl (by first | rfl | exact nd_b_nar _) (by omega) (by omega) dX7_done_100 ((by simpa [lw_dn, nd_b, (key b a).mpr hc] using hk))
    · refine nd_iconst hC (v := nI 1) (by rfl) dX7_done_95 ?_
      refine nd_goto hC (tgt := 100) dX7_done_96 (by decide) ?_
      refine nd_ireturn hC rfl (by first | rfl | exact nd_b_nar _) (by omega) (by omega) dX7_done_100 ((by simpa [lw_dn, nd_b, Decidable.of_not_not (fun z => hc ((key b a).mp z))] using hk))
  · refine nd_tableIn hC (tgt := 101) dX7_done_1 (by decide) (by decide) (by rfl) (by decide) ?_
    refine nd_lload_n hC dX7_done_101 rfl ?_
    refine nd_lload_n hC dX7_done_102 rfl ?_
    first | with_reducible refine nd_laddN hC dX7_done_103 ?_ | refine nd_ladd hC dX7_done_103 ?_
    refine nd_lconst hC (v := lN 1) (by rfl) dX7_done_104 ?_
    refine nd_lcmp_le hC (tgt := 113) dX7_done_105 dX7_done_106 (by decide) (fun hc => ?_) (fun hc => ?_)
    · refine nd_iconst hC (v := nI 0) (by rfl) dX7_done_113 ?_
      refine nd_ireturn hC rfl (by first | rfl | exact nd_b_nar _) (by omega) (by omega) dX7_done_114 ((by simpa [lw_dn, nd_b, (key _ _).mpr hc] using hk))
    · refine nd_iconst hC (v := nI 1) (by rfl) dX7_done_109 ?_
      refine nd_goto hC (tgt := 114) dX7_done_110 (by decide) ?_
      refine nd_ireturn hC rfl (by first | rfl | exact nd_b_nar _) (by omega) (by omega) dX7_done_114 ((by simpa [lw_dn, nd_b, Decidable.of_not_not (fun z => hc ((key _ _).mp z))] using hk))
  · refine nd_tableOut hC (tgt := 115) dX7_done_1 (by decide) (by decide) ?_
    refine nd_lload_n hC dX7_done_115 rfl ?_
    refine nd_lload_n hC dX7_done_116 rfl ?_
    first | with_reducible refine nd_laddN hC dX7_done_117 ?_ | refine nd_ladd hC dX7_done_117 ?_
    refine nd_lconst hC (v := lN 0) (by rfl) dX7_done_118 ?_
    refine nd_lcmp_le hC (tgt := 127) dX7_done_119 dX7_done_120 (by decide) (fun hc => ?_) (fun hc => ?_)
    · refine nd_iconst hC (v := nI 0) (by rfl) dX7_done_127 ?_
      refine nd_ireturn hC rfl (by first | rfl | exact nd_b_nar _) (by omega) (by omega) dX7_done_128 ((by simpa [lw_dn, nd_b, (key _ _).mpr hc] using hk))
    · refine nd_iconst hC (v := nI 1) (by rfl) dX7_done_123 ?_
      refine nd_goto hC (tgt := 128) dX7_done_124 (by decide) ?_
      refine nd_ireturn hC rfl (by first | rfl | exact nd_b_nar _) (by omega) (by omega) dX7_done_128 ((by simpa [lw_dn, nd_b, Decidable.of_not_not (fun z => hc ((key _ _).mp z))] using hk))
/-- a law's steps among what is known -/
def mo_lw (k : Nat → Int32) (many at_ : Nat) (p : List Nat) : Prop := k many = nI p.length ∧ ∀ i, i < p.length → k (at_ + i) = nI (p.getD i 0)
theorem lw_wf_len {m : Nat} (p : List Nat) : ∀ n, lw_wf m n p → ∀ c ∈ p, c < 2000 ∨ m ≥ 1900 := by
  induction p with
  | nil => intro n _ c hc; simp at hc
  | cons a t ih =>
    intro n hw c hc
    unfold lw_wf at hw
    rcases List.mem_cons.mp hc with e | e
    · subst e
      by_cases h1 : 1000 ≤ c
      · simp only [h1, if_true] at hw; omega
      · left; omega
    · by_cases h1 : 1000 ≤ a
      · simp only [h1, if_true] at hw; exact ih _ hw.2.2 c e
      · by_cases h2 : 100 ≤ a
        · simp only [h1, h2, if_true, if_false] at hw; exact ih _ hw.2.2 c e
        · by_cases h3 : a = 18
          · simp only [h1, h2, h3, if_true, if_false] at hw; exact ih _ hw.2 c e
          · simp only [h1, h2, h3, if_false] at hw; exact ih _ hw.2.2 c e
theorem sp_lawOf (hg : nd_OK g) (hd : 2 ≤ d) (hw : mo_W h0 A F B h) {many at_ : Nat} {p : List Nat} (hm : many < 2912) (ha : at_ + p.length ≤ 2912) (hp : mo_lw (A 0) many at_ p) (hwf : lw_wf 8 0 p) (hk : ∀ f2 h2, mo_W h0 (va_up A 21 f2) F B h2 → K (.inl (some (.int ((lw_ev (A 22) p []).headD 0)))) h2) : nd_M g mX7_lawOf d 0 0 [.ref 101, .int (nI many), .int (nI at_)] h K := by
  have e0 : ∀ f2, (va_up A 21 f2) 0 = A 0 := fun f2 => va_up_n A f2 (by decide)
  have e22 : ∀ f2, (va_up A 21 f2) 22 = A 22 := fun f2 => va_up_n A f2 (by decide)
  have hl : p.length ≤ 2912 := by omega
  refine nd_enter hg (by decide) rfl (Nat.le_of_ble_eq_true rfl) (fun X hC => ?_)
  refine nd_iconst hC (v := nI 0) (by rfl) dX7_lawOf_0 ?_
  refine nd_istore_n hC dX7_lawOf_1 (Nat.le_of_ble_eq_true rfl) ?_
  refine nd_iconst hC (v := nI 0) (by rfl) dX7_lawOf_2 ?_
  refine nd_istore hC dX7_lawOf_3 (Nat.le_of_ble_eq_true rfl) ?_
  have L : ∀ k, k ≤ p.length → ∀ f2 h2 (s : List Int32), lw_wf 8 s.length (p.drop k) → s.length ≤ 64 → (∀ i, i < s.length → f2 i = s.getD (s.length - 1 - i) 0) → lw_ev (A 22) (p.drop k) s = lw_ev (A 22) p [] → mo_W h0 (va_up A 21 f2) F B h2 → nd_W g mX7_lawOf d 0 0 K X 5 [some (.ref 101), some (.int (nI many)), some (.int (nI at_)), some (.int (nI s.length)), some (.int (nI k)), none] [] h2 0 0 := by
    refine nd_for p.length _ ?_ ?_
    · intro f2 h s hwf2 h64 hs he hw
      rw [List.drop_length] at hwf2 he
      refine nd_iload hC dX7_lawOf_5 rfl ?_
      refine nd_aload_n hC dX7_lawOf_7 rfl rfl ?_
      refine mo_get_known hC hw rfl dX7_lawOf_8 ?_
      refine nd_iload_n hC dX7_lawOf_11 rfl ?_
      refine nd_ialoadN hC hw.known (by omega) (by decide) dX7_lawOf_12 ?_
      refine nd_v_eq (y := .int (nI p.length)) (by rw [e0, hp.1]) ?_
      first | with_reducible refine nd_icmp_geN hC (tgt := 139) (by omega) (by omega) dX7_lawOf_13 (by decide) (fun hc => ?_) (fun hc => ?_) | refine nd_icmp_ge hC (tgt := 139) dX7_lawOf_13 (by decide) (fun hc => ?_) (fun hc => ?_)
      · refine nd_aload_n hC dX7_lawOf_139 rfl rfl ?_
        refine mo_get_lawStack hC hw rfl dX7_lawOf_140 ?_
        refine nd_iconst hC (v := nI 0) (by rfl) dX7_lawOf_143 ?_
        refine nd_ialoadN hC hw.lawStack (by omega) (by decide) dX7_lawOf_144 ?_
        have e1 : s.length = 1 := hwf2
        obtain ⟨r, rfl⟩ : ∃ r, s = [r] := by
          match s, e1 with
          | [r], _ => exact ⟨r, rfl⟩
        refine nd_v_eq (y := .int ((lw_ev (A 22) p []).headD 0)) (by rw [va_up_s, hs 0 (by simp), ← he]; rfl) ?_
        refine nd_ireturn hC rfl (by first | rfl | exact nd_b_nar _) (by omega) (by omega) dX7_lawOf_145 ((hk f2 h hw))
      · omega
    · intro k hk1 ih f2 h s hwf2 h64 hs he hw
      have ed : p.drop k = p.getD k 0 :: p.drop (k + 1) := by
        rw [List.drop_eq_getElem_cons hk1, List.getD_eq_getElem?_getD, List.getElem?_eq_getElem hk1]; rfl
      rw [ed] at hwf2 he
      have hk8 := hp.2 k hk1
      generalize p.getD k 0 = c at *
      unfold lw_wf at hwf2
      refine nd_iload hC dX7_lawOf_5 rfl ?_
      refine nd_aload_n hC dX7_lawOf_7 rfl rfl ?_
      refine mo_get_known hC hw rfl dX7_lawOf_8 ?_
      refine nd_iload_n hC dX7_lawOf_11 rfl ?_
      refine nd_ialoadN hC hw.known (by omega) (by decide) dX7_lawOf_12 ?_
      refine nd_v_eq (y := .int (nI p.length)) (by rw [e0, hp.1]) ?_
      first | with_reducible refine nd_icmp_geN hC (tgt := 139) (by omega) (by omega) dX7_lawOf_13 (by decide) (fun hc => ?_) (fun hc => ?_) | refine nd_icmp_ge hC (tgt := 139) dX7_lawOf_13 (by decide) (fun hc => ?_) (fun hc => ?_)
      · omega
      refine nd_aload_n hC dX7_lawOf_16 rfl rfl ?_
      refine mo_get_known hC hw rfl dX7_lawOf_17 ?_
      refine nd_iload_n hC dX7_lawOf_20 rfl ?_
      refine nd_iload hC dX7_lawOf_21 rfl ?_
      first | with_reducible refine nd_iaddN hC dX7_lawOf_23 ?_ | refine nd_iadd hC dX7_lawOf_23 ?_
      refine nd_ialoadN hC hw.known (by omega) (by decide) dX7_lawOf_24 ?_
      rw [e0, hk8]
      have J : ∀ f3 h3 (s2 : List Int32), lw_wf 8 s2.length (p.drop (k + 1)) → s2.length ≤ 64 → (∀ i, i < s2.length → f3 i = s2.getD (s2.length - 1 - i) 0) → lw_ev (A 22) (p.drop (k + 1)) s2 = lw_ev (A 22) p [] → mo_W h0 (va_up A 21 f3) F B h3 → nd_W g mX7_lawOf d 0 0 K X 133 [some (.ref 101), some (.int (nI many)), some (.int (nI at_)), some (.int (nI s2.length)), some (.int (nI k)), some (.int (nI c))] [] h3 0 0 := by
        intro f3 h s2 q1 q2 q3 q4 hw
        first | with_reducible refine nd_iincN hC dX7_lawOf_133 rfl (Nat.le_of_ble_eq_true rfl) ?_ | refine nd_iinc hC dX7_lawOf_133 rfl rfl (Nat.le_of_ble_eq_true rfl) ?_
        refine nd_goto hC (tgt := 5) dX7_lawOf_136 (by decide) ?_
        refine nd_drop 5 ?_
        exact ih f3 h s2 q1 q2 q3 q4 hw
      -- a number goes on the stack
      have JP : ∀ v : Int32, lw_wf 8 (s.length + 1) (p.drop (k + 1)) → s.length < 64 → lw_ev (A 22) (p.drop (k + 1)) (v :: s) = lw_ev (A 22) p [] → nd_W g mX7_lawOf d 0 0 K X 66 [some (.ref 101), some (.int (nI many)), some (.int (nI at_)), some (.int (nI s.length)), some (.int (nI k)), some (.int (nI c))] [.int v, .int (nI s.length), .ref 109] h 0 0 := by
        intro v q1 q2 q3
        refine mo_ast_lawStack hC hw (by omega) dX7_lawOf_66 (fun h hw => ?_)
        try simp only [va_up_up, va_up_s] at hw
        first | with_reducible refine nd_iincN hC dX7_lawOf_67 rfl (Nat.le_of_ble_eq_true rfl) ?_ | refine nd_iinc hC dX7_lawOf_67 rfl rfl (Nat.le_of_ble_eq_true rfl) ?_
        refine nd_goto hC (tgt := 133) dX7_lawOf_70 (by decide) ?_
        refine J _ h (v :: s) q1 q2 (fun i hi => ?_) q3 hw
        by_cases e : i = s.length
        · subst e; rw [upd_s]; simp
        · rw [upd_n e]
          have hi2 : i < s.length := by simp at hi; omega
          rw [hs i hi2]
          have : (v :: s).length - 1 - i = (s.length - 1 - i) + 1 := by simp; omega
          rw [this]; simp
      by_cases h1 : 1000 ≤ c
      · simp only [h1, if_true] at hwf2
        have hst : lw_ev (A 22) (p.drop (k + 1)) (nI (c - 1000) :: s) = lw_ev (A 22) p [] := by
          rw [← he]; show _ = lw_ev (A 22) (p.drop (k + 1)) (lw_st (A 22) s c); unfold lw_st; rw [if_pos h1]
        refine nd_istore hC dX7_lawOf_25 (Nat.le_of_ble_eq_true rfl) ?_
        refine nd_iload hC dX7_lawOf_27 rfl ?_
        refine nd_bipush hC (v := nI 100) (by rfl) dX7_lawOf_29 ?_
        first | with_reducible refine nd_icmp_ltN hC (tgt := 73) (by omega) (by omega) dX7_lawOf_31 (by decide) (fun hc => ?_) (fun hc => ?_) | refine nd_icmp_lt hC (tgt := 73) dX7_lawOf_31 (by decide) (fun hc => ?_) (fun hc => ?_)
        · omega
        refine nd_aload_n hC dX7_lawOf_34 rfl rfl ?_
        refine mo_get_lawStack hC hw rfl dX7_lawOf_35 ?_
        refine nd_iload_n hC dX7_lawOf_38 rfl ?_
        refine nd_iload hC dX7_lawOf_39 rfl ?_
        refine nd_sipush hC (v := nI 1000) (by rfl) dX7_lawOf_41 ?_
        first | with_reducible refine nd_icmp_ltN hC (tgt := 56) (by omega) (by omega) dX7_lawOf_44 (by decide) (fun hc => ?_) (fun hc => ?_) | refine nd_icmp_lt hC (tgt := 56) dX7_lawOf_44 (by decide) (fun hc => ?_) (fun hc => ?_)
        · omega
        refine nd_iload hC dX7_lawOf_47 rfl ?_
        refine nd_sipush hC (v := nI 1000) (by rfl) dX7_lawOf_49 ?_
        first | with_reducible refine nd_isubN hC (by omega) dX7_lawOf_52 ?_ | refine nd_isub hC dX7_lawOf_52 ?_
        refine nd_goto hC (tgt := 66) dX7_lawOf_53 (by decide) ?_
        exact JP _ hwf2.2.2 hwf2.2.1 hst
      · by_cases h2 : 100 ≤ c
        · simp only [h1, h2, if_true, if_false] at hwf2
          have hst : lw_ev (A 22) (p.drop (k + 1)) (A 22 (c - 100) :: s) = lw_ev (A 22) p [] := by
            rw [← he]; show _ = lw_ev (A 22) (p.drop (k + 1)) (lw_st (A 22) s c); unfold lw_st; rw [if_neg h1, if_pos h2]
          refine nd_istore hC dX7_lawOf_25 (Nat.le_of_ble_eq_true rfl) ?_
          refine nd_iload hC dX7_lawOf_27 rfl ?_
          refine nd_bipush hC (v := nI 100) (by rfl) dX7_lawOf_29 ?_
          first | with_reducible refine nd_icmp_ltN hC (tgt := 73) (by omega) (by omega) dX7_lawOf_31 (by decide) (fun hc => ?_) (fun hc => ?_) | refine nd_icmp_lt hC (tgt := 73) dX7_lawOf_31 (by decide) (fun hc => ?_) (fun hc => ?_)
          · omega
          refine nd_aload_n hC dX7_lawOf_34 rfl rfl ?_
          refine mo_get_lawStack hC hw rfl dX7_lawOf_35 ?_
          refine nd_iload_n hC dX7_lawOf_38 rfl ?_
          refine nd_iload hC dX7_lawOf_39 rfl ?_
          refine nd_sipush hC (v := nI 1000) (by rfl) dX7_lawOf_41 ?_
          first | with_reducible refine nd_icmp_ltN hC (tgt := 56) (by omega) (by omega) dX7_lawOf_44 (by decide) (fun hc => ?_) (fun hc => ?_) | refine nd_icmp_lt hC (tgt := 56) dX7_lawOf_44 (by decide) (fun hc => ?_) (fun hc => ?_)
          · refine nd_aload_n hC dX7_lawOf_56 rfl rfl ?_
            refine mo_get_asked hC hw rfl dX7_lawOf_57 ?_
            refine nd_iload hC dX7_lawOf_60 rfl ?_
            refine nd_bipush hC (v := nI 100) (by rfl) dX7_lawOf_62 ?_
            first | with_reducible refine nd_isubN hC (by omega) dX7_lawOf_64 ?_ | refine nd_isub hC dX7_lawOf_64 ?_
            refine nd_ialoadN hC hw.asked (by omega) (by decide) dX7_lawOf_65 ?_
            rw [e22]
            exact JP _ hwf2.2.2 hwf2.2.1 hst
          · omega
        · by_cases h3 : c = 18
          · subst h3
            simp only [h1, h2, if_true, if_false] at hwf2
            obtain ⟨x, t, rfl⟩ : ∃ x t, s = x :: t := by
              match s, hwf2.1 with
              | x :: t, _ => exact ⟨x, t, rfl⟩
            have hst : lw_ev (A 22) (p.drop (k + 1)) ((nI 1 - x) :: t) = lw_ev (A 22) p [] := by
              rw [← he]; rfl
            have hlen : (x :: t).length = t.length + 1 := by simp
            rw [hlen] at h64 hs
            have hx : f2 t.length = x := by have := hs t.length (by omega); rw [show t.length + 1 - 1 - t.length = 0 by omega] at this; simpa using this
            rw [hlen]
            refine nd_istore hC dX7_lawOf_25 (Nat.le_of_ble_eq_true rfl) ?_
            refine nd_iload hC dX7_lawOf_27 rfl ?_
            refine nd_bipush hC (v := nI 100) (by rfl) dX7_lawOf_29 ?_
            first | with_reducible refine nd_icmp_ltN hC (tgt := 73) (by omega) (by omega) dX7_lawOf_31 (by decide) (fun hc => ?_) (fun hc => ?_) | refine nd_icmp_lt hC (tgt := 73) dX7_lawOf_31 (by decide) (fun hc => ?_) (fun hc => ?_)
            · refine nd_iload hC dX7_lawOf_73 rfl ?_
              refine nd_bipush hC (v := nI 18) (by rfl) dX7_lawOf_75 ?_
              first | with_reducible refine nd_icmp_neN hC (tgt := 101) (by omega) (by omega) dX7_lawOf_77 (by decide) (fun hc => ?_) (fun hc => ?_) | refine nd_icmp_ne hC (tgt := 101) dX7_lawOf_77 (by decide) (fun hc => ?_) (fun hc => ?_)
              · omega
              refine nd_aload_n hC dX7_lawOf_80 rfl rfl ?_
              refine mo_get_lawStack hC hw rfl dX7_lawOf_81 ?_
              refine nd_iload_n hC dX7_lawOf_84 rfl ?_
              refine nd_iconst hC (v := nI 1) (by rfl) dX7_lawOf_85 ?_
              first | with_reducible refine nd_isubN hC (by omega) dX7_lawOf_86 ?_ | refine nd_isub hC dX7_lawOf_86 ?_
              refine nd_iconst hC (v := nI 1) (by rfl) dX7_lawOf_87 ?_
              refine nd_aload_n hC dX7_lawOf_88 rfl rfl ?_
              refine mo_get_lawStack hC hw rfl dX7_lawOf_89 ?_
              refine nd_iload_n hC dX7_lawOf_92 rfl ?_
              refine nd_iconst hC (v := nI 1) (by rfl) dX7_lawOf_93 ?_
              first | with_reducible refine nd_isubN hC (by omega) dX7_lawOf_94 ?_ | refine nd_isub hC dX7_lawOf_94 ?_
              refine nd_ialoadN hC hw.lawStack (by omega) (by decide) dX7_lawOf_95 ?_
              refine nd_v_eq (y := .int x) (by rw [va_up_s]; exact congrArg Value.int hx) ?_
              refine nd_isub hC dX7_lawOf_96 ?_
              refine mo_ast_lawStack hC hw (by omega) dX7_lawOf_97 (fun h hw => ?_)
              try simp only [va_up_up, va_up_s] at hw
              refine nd_goto hC (tgt := 133) dX7_lawOf_98 (by decide) ?_
              refine J _ h ((nI 1 - x) :: t) (by rw [hlen] at hwf2; exact hwf2.2) (by simpa using h64) (fun i hi => ?_) hst hw
              by_cases e : i = t.length
              · subst e
                rw [show t.length + 1 - 1 = t.length by omega, upd_s]; simp
              · have hi2 : i < t.length := by simp at hi; omega
                rw [upd_n (by omega), hs i (by omega)]
                have e7 : t.length + 1 - 1 - i = (t.length - 1 - i) + 1 := by omega
                have e8 : ((nI 1 - x) :: t).length - 1 - i = (t.length - 1 - i) + 1 := by simp; omega
                rw [e7, e8]; simp
            · omega
          · simp only [h1, h2, h3, if_false] at hwf2
            obtain ⟨y, x, t, rfl⟩ : ∃ y x t, s = y :: x :: t := by
              match s, hwf2.2.1 with
              | y :: x :: t, _ => exact ⟨y, x, t, rfl⟩
            have hst : lw_ev (A 22) (p.drop (k + 1)) (lw_dn c x.toInt64 y.toInt64 :: t) = lw_ev (A 22) p [] := by
              rw [← he]; show _ = lw_ev (A 22) (p.drop (k + 1)) (lw_st (A 22) (y :: x :: t) c); unfold lw_st; rw [if_neg h1, if_neg h2, if_neg h3]
            have hlen : (y :: x :: t).length = t.length + 2 := by simp
            rw [hlen] at h64 hs
            have hx : f2 t.length = x := by have := hs t.length (by omega); rw [show t.length + 2 - 1 - t.length = 1 by omega] at this; simpa using this
            have hy : f2 (t.length + 1) = y := by have := hs (t.length + 1) (by omega); rw [show t.length + 2 - 1 - (t.length + 1) = 0 by omega] at this; simpa using this
            rw [hlen]
            refine nd_istore hC dX7_lawOf_25 (Nat.le_of_ble_eq_true rfl) ?_
            refine nd_iload hC dX7_lawOf_27 rfl ?_
            refine nd_bipush hC (v := nI 100) (by rfl) dX7_lawOf_29 ?_
            first | with_reducible refine nd_icmp_ltN hC (tgt := 73) (by omega) (by omega) dX7_lawOf_31 (by decide) (fun hc => ?_) (fun hc => ?_) | refine nd_icmp_lt hC (tgt := 73) dX7_lawOf_31 (by decide) (fun hc => ?_) (fun hc => ?_)
            · refine nd_iload hC dX7_lawOf_73 rfl ?_
              refine nd_bipush hC (v := nI 18) (by rfl) dX7_lawOf_75 ?_
              first | with_reducible refine nd_icmp_neN hC (tgt := 101) (by omega) (by omega) dX7_lawOf_77 (by decide) (fun hc => ?_) (fun hc => ?_) | refine nd_icmp_ne hC (tgt := 101) dX7_lawOf_77 (by decide) (fun hc => ?_) (fun hc => ?_)
              · first | with_reducible refine nd_iincN hC dX7_lawOf_101 rfl (Nat.le_of_ble_eq_true rfl) ?_ | refine nd_iinc hC dX7_lawOf_101 rfl rfl (Nat.le_of_ble_eq_true rfl) ?_
                refine nd_to (lv2 := [some (.ref 101), some (.int (nI many)), some (.int (nI at_)), some (.int (nI (t.length + 1))), some (.int (nI k)), some (.int (nI c))]) ?_ rfl rfl ?_
                · rw [show nI (t.length + 2) + Int32.ofInt (-1) = nI (t.length + 1) from pk_m1 (t.length + 1)]; rfl
                refine nd_aload_n hC dX7_lawOf_104 rfl rfl ?_
                refine mo_get_lawStack hC hw rfl dX7_lawOf_105 ?_
                refine nd_iload_n hC dX7_lawOf_108 rfl ?_
                refine nd_iconst hC (v := nI 1) (by rfl) dX7_lawOf_109 ?_
                first | with_reducible refine nd_isubN hC (by omega) dX7_lawOf_110 ?_ | refine nd_isub hC dX7_lawOf_110 ?_
                refine nd_iload hC dX7_lawOf_111 rfl ?_
                refine nd_aload_n hC dX7_lawOf_113 rfl rfl ?_
                refine mo_get_lawStack hC hw rfl dX7_lawOf_114 ?_
                refine nd_iload_n hC dX7_lawOf_117 rfl ?_
                refine nd_iconst hC (v := nI 1) (by rfl) dX7_lawOf_118 ?_
                first | with_reducible refine nd_isubN hC (by omega) dX7_lawOf_119 ?_ | refine nd_isub hC dX7_lawOf_119 ?_
                refine nd_ialoadN hC hw.lawStack (by omega) (by decide) dX7_lawOf_120 ?_
                refine nd_v_eq (y := .int x) (by rw [va_up_s, show t.length + 1 - 1 = t.length by omega]; exact congrArg Value.int hx) ?_
                refine nd_i2l hC dX7_lawOf_121 ?_
                refine nd_aload_n hC dX7_lawOf_122 rfl rfl ?_
                refine mo_get_lawStack hC hw rfl dX7_lawOf_123 ?_
                refine nd_iload_n hC dX7_lawOf_126 rfl ?_
                refine nd_ialoadN hC hw.lawStack (by omega) (by decide) dX7_lawOf_127 ?_
                refine nd_v_eq (y := .int y) (by rw [va_up_s]; exact congrArg Value.int hy) ?_
                refine nd_i2l hC dX7_lawOf_128 ?_
                refine mo_callS (As := [_, _, _]) (d2 := d - 1) hC rfl lkX7_321 lyX7_321 (Nat.le_of_ble_eq_true rfl) (by omega) rfl (by exact Nat.le_of_ble_eq_true rfl) (Nat.zero_le _) (Nat.zero_le _) dX7_lawOf_129 rfl ((sp_done hg (by omega) hwf2.1.1 hwf2.1.2 ?_))
                refine mo_ast_lawStack hC hw (by omega) dX7_lawOf_132 (fun h hw => ?_)
                try simp only [va_up_up, va_up_s] at hw
                refine J _ h (lw_dn c x.toInt64 y.toInt64 :: t) (by rw [hlen] at hwf2; exact hwf2.2.2) (by simp; omega) (fun i hi => ?_) hst hw
                by_cases e : i = t.length
                · subst e
                  rw [show t.length + 1 - 1 = t.length by omega, upd_s]; simp
                · have hi2 : i < t.length := by simp at hi; omega
                  rw [upd_n (by omega), hs i (by omega)]
                  have e7 : t.length + 2 - 1 - i = (t.length - 1 - i) + 1 + 1 := by omega
                  have e8 : (lw_dn c x.toInt64 y.toInt64 :: t).length - 1 - i = (t.length - 1 - i) + 1 := by simp; omega
                  rw [e7, e8]; simp
              · omega
            · omega
  exact L 0 (Nat.zero_le _) (A 21) h [] hwf (by simp) (fun i hi => by simp at hi) rfl (by rw [va_up_id]; exact hw)
end MO7

