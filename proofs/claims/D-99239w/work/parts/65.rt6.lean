set_option maxRecDepth 100000
/-! ===== the reference's reader: lines ===== -/
theorem l_snoc_l {xs : List Nat} {a i : Nat} (h : i < xs.length) : (xs ++ [a]).getD i 0 = xs.getD i 0 := by
  rw [List.getD_eq_getElem?_getD, List.getElem?_append_left h, ← List.getD_eq_getElem?_getD]
theorem l_snoc_r {xs : List Nat} {a : Nat} : (xs ++ [a]).getD xs.length 0 = a := by
  rw [List.getD_eq_getElem?_getD, List.getElem?_append_right (Nat.le_refl _), Nat.sub_self]; rfl
/-- what a row of the reference tells: what was read -/
def tx_kn (f : Nat → Int32) (N : tx_N) : Prop := mo_kn f (tx_nk N, ([], N.1, N.2.1), [])
theorem tx_kn_cell {f f2 : Nat → Int32} {N : tx_N} (hN : tx_NI N) (h : tx_kn f N) (h6 : N.1.length ≠ 6) {a b : Nat} (e1 : f2 1 = nI (N.1.length + 1)) (ea : f2 (13 + N.1.length) = nI a) (eb : f2 (19 + N.1.length) = nI b) (eo : ∀ j, j ≠ 1 → j ≠ 13 + N.1.length → j ≠ 19 + N.1.length → f2 j = f j) : tx_kn f2 (tx_put N 0 [a, b]) := by
  obtain ⟨n1, n2, n3, n4, n5, n6, n7, n8, n9⟩ := hN
  obtain ⟨⟨h1, h2, h3, h4, h5, h7, h8⟩, ⟨s1, s2, s3, s4⟩, h9, h10⟩ := h
  have s3 : ∀ c, c < N.1.length → f (7 + 6 + c) = nI (N.1.getD c 0) := s3
  have s4 : ∀ c, c < N.2.1.length → f (7 + 12 + c) = nI (N.2.1.getD c 0) := s4
  have h4 : ∀ i, i < N.2.2.1.length → f (25 + i) = nI (N.2.2.1.getD i 0) := h4
  refine ⟨⟨(eo 0 (by omega) (by omega) (by omega)).trans h1, ?_, (eo 2 (by omega) (by omega) (by omega)).trans h3, fun i hi => ?_, ⟨(eo 3 (by omega) (by omega) (by omega)).trans h5.1, fun i hi => (eo _ (by omega) (by omega) (by omega)).trans (h5.2 i hi)⟩, ⟨(eo 4 (by omega) (by omega) (by omega)).trans h7.1, fun i hi => (eo _ (by omega) (by omega) (by omega)).trans (h7.2 i hi)⟩, ⟨(eo 5 (by omega) (by omega) (by omega)).trans h8.1, fun i hi => (eo _ (by omega) (by omega) (by omega)).trans (h8.2 i hi)⟩⟩, ⟨(eo 7 (by omega) (by omega) (by omega)).trans s1, fun i hi => absurd hi (Nat.not_lt_zero _), fun c hc => ?_, fun c hc => ?_⟩, (eo 6 (by omega) (by omega) (by omega)).trans h9, fun i hi => absurd hi (Nat.not_lt_zero _)⟩
  · show f2 1 = nI (N.1 ++ [a]).length
    rw [List.length_append]; exact e1
  · have hi : i < N.2.2.1.length := hi
    exact (eo _ (by omega) (by omega) (by omega)).trans (h4 i hi)
  · have hc : c < (N.1 ++ [a]).length := hc
    rw [List.length_append, List.length_singleton] at hc
    show f2 (7 + 6 + c) = nI ((N.1 ++ [a]).getD c 0)
    by_cases e : c = N.1.length
    · subst e; rw [l_snoc_r]; exact ea
    · rw [l_snoc_l (by omega), eo _ (by omega) (by omega) (by omega)]; exact s3 c (by omega)
  · have hc : c < (N.2.1 ++ [b]).length := hc
    rw [List.length_append, List.length_singleton] at hc
    show f2 (7 + 12 + c) = nI ((N.2.1 ++ [b]).getD c 0)
    by_cases e : c = N.2.1.length
    · subst e; rw [l_snoc_r, n2]; exact eb
    · rw [l_snoc_l (by omega), eo _ (by omega) (by omega) (by omega)]; exact s4 c (by omega)
theorem tx_kn_guest {f f2 : Nat → Int32} {N : tx_N} (hN : tx_NI N) (h : tx_kn f N) (h6 : N.2.2.1.length ≠ 4) {a : Nat} (e1 : f2 2 = nI (N.2.2.1.length + 1)) (ea : f2 (25 + N.2.2.1.length) = nI a) (eo : ∀ j, j ≠ 2 → j ≠ 25 + N.2.2.1.length → f2 j = f j) : tx_kn f2 (tx_put N 1 [a]) := by
  obtain ⟨n1, n2, n3, n4, n5, n6, n7, n8, n9⟩ := hN
  obtain ⟨⟨h1, h2, h3, h4, h5, h7, h8⟩, ⟨s1, s2, s3, s4⟩, h9, h10⟩ := h
  have s3 : ∀ c, c < N.1.length → f (7 + 6 + c) = nI (N.1.getD c 0) := s3
  have s4 : ∀ c, c < N.2.1.length → f (7 + 12 + c) = nI (N.2.1.getD c 0) := s4
  have h4 : ∀ i, i < N.2.2.1.length → f (25 + i) = nI (N.2.2.1.getD i 0) := h4
  refine ⟨⟨(eo 0 (by omega) (by omega)).trans h1, (eo 1 (by omega) (by omega)).trans h2, ?_, fun i hi => ?_, ⟨(eo 3 (by omega) (by omega)).trans h5.1, fun i hi => (eo _ (by omega) (by omega)).trans (h5.2 i hi)⟩, ⟨(eo 4 (by omega) (by omega)).trans h7.1, fun i hi => (eo _ (by omega) (by omega)).trans (h7.2 i hi)⟩, ⟨(eo 5 (by omega) (by omega)).trans h8.1, fun i hi => (eo _ (by omega) (by omega)).trans (h8.2 i hi)⟩⟩, ⟨(eo 7 (by omega) (by omega)).trans s1, fun i hi => absurd hi (Nat.not_lt_zero _), fun c hc => ?_, fun c hc => ?_⟩, (eo 6 (by omega) (by omega)).trans h9, fun i hi => absurd hi (Nat.not_lt_zero _)⟩
  · show f2 2 = nI (N.2.2.1 ++ [a]).length
    rw [List.length_append]; exact e1
  · have hi : i < (N.2.2.1 ++ [a]).length := hi
    rw [List.length_append, List.length_singleton] at hi
    show f2 (25 + i) = nI ((N.2.2.1 ++ [a]).getD i 0)
    by_cases e : i = N.2.2.1.length
    · subst e; rw [l_snoc_r]; exact ea
    · rw [l_snoc_l (by omega), eo _ (by omega) (by omega)]; exact h4 i (by omega)
  · have hc : c < N.1.length := hc
    exact (eo _ (by omega) (by omega)).trans (s3 c hc)
  · have hc : c < N.2.1.length := hc
    exact (eo _ (by omega) (by omega)).trans (s4 c hc)
theorem tx_kn_law {f f2 : Nat → Int32} {N : tx_N} (hN : tx_NI N) (h : tx_kn f N) {s : Nat} (hs1 : 2 ≤ s) (hs2 : s ≤ 4) {x : List Nat} (hx : x.length ≤ 900) (hL : tx_L (s + 1) (900 * s - 1591) x f f2) : tx_kn f2 (tx_put N s x) := by
  obtain ⟨n1, n2, n3, n4, n5, n6, n7, n8, n9⟩ := hN
  obtain ⟨⟨h1, h2, h3, h4, h5, h7, h8⟩, ⟨s1, s2, s3, s4⟩, h9, h10⟩ := h
  have s3 : ∀ c, c < N.1.length → f (7 + 6 + c) = nI (N.1.getD c 0) := s3
  have s4 : ∀ c, c < N.2.1.length → f (7 + 12 + c) = nI (N.2.1.getD c 0) := s4
  have h4 : ∀ i, i < N.2.2.1.length → f (25 + i) = nI (N.2.2.1.getD i 0) := h4
  have h5 : mo_lw f 3 209 N.2.2.2.2.1 := h5
  have h7 : mo_lw f 4 1109 N.2.2.2.2.2.1 := h7
  have h8 : mo_lw f 5 2009 N.2.2.2.2.2.2 := h8
  obtain ⟨l1, l2, l3⟩ := hL
  have hs : s = 2 ∨ s = 3 ∨ s = 4 := by omega
  rcases hs with rfl | rfl | rfl
  · have l3 : ∀ j, j ≠ 3 → ¬ (209 ≤ j ∧ j < 209 + 900) → f2 j = f j := l3
    have wh7 : mo_lw f2 4 1109 N.2.2.2.2.2.1 := ⟨(l3 4 (by omega) (by omega)).trans h7.1, fun i hi => (l3 _ (by omega) (by omega)).trans (h7.2 i hi)⟩
    have wh8 : mo_lw f2 5 2009 N.2.2.2.2.2.2 := ⟨(l3 5 (by omega) (by omega)).trans h8.1, fun i hi => (l3 _ (by omega) (by omega)).trans (h8.2 i hi)⟩
    refine ⟨⟨(l3 0 (by omega) (by omega)).trans h1, (l3 1 (by omega) (by omega)).trans h2, (l3 2 (by omega) (by omega)).trans h3, fun i hi => ?_, ⟨l1, l2⟩, wh7, wh8⟩, ⟨(l3 7 (by omega) (by omega)).trans s1, fun i hi => absurd hi (Nat.not_lt_zero _), fun c hc => ?_, fun c hc => ?_⟩, (l3 6 (by omega) (by omega)).trans h9, fun i hi => absurd hi (Nat.not_lt_zero _)⟩
    · have hi : i < N.2.2.1.length := hi
      exact (l3 _ (by omega) (by omega)).trans (h4 i hi)
    · have hc : c < N.1.length := hc
      exact (l3 _ (by omega) (by omega)).trans (s3 c hc)
    · have hc : c < N.2.1.length := hc
      exact (l3 _ (by omega) (by omega)).trans (s4 c hc)
  · have l3 : ∀ j, j ≠ 4 → ¬ (1109 ≤ j ∧ j < 1109 + 900) → f2 j = f j := l3
    have wh5 : mo_lw f2 3 209 N.2.2.2.2.1 := ⟨(l3 3 (by omega) (by omega)).trans h5.1, fun i hi => (l3 _ (by omega) (by omega)).trans (h5.2 i hi)⟩
    have wh8 : mo_lw f2 5 2009 N.2.2.2.2.2.2 := ⟨(l3 5 (by omega) (by omega)).trans h8.1, fun i hi => (l3 _ (by omega) (by omega)).trans (h8.2 i hi)⟩
    refine ⟨⟨(l3 0 (by omega) (by omega)).trans h1, (l3 1 (by omega) (by omega)).trans h2, (l3 2 (by omega) (by omega)).trans h3, fun i hi => ?_, wh5, ⟨l1, l2⟩, wh8⟩, ⟨(l3 7 (by omega) (by omega)).trans s1, fun i hi => absurd hi (Nat.not_lt_zero _), fun c hc => ?_, fun c hc => ?_⟩, (l3 6 (by omega) (by omega)).trans h9, fun i hi => absurd hi (Nat.not_lt_zero _)⟩
    · have hi : i < N.2.2.1.length := hi
      exact (l3 _ (by omega) (by omega)).trans (h4 i hi)
    · have hc : c < N.1.length := hc
      exact (l3 _ (by omega) (by omega)).trans (s3 c hc)
    · have hc : c < N.2.1.length := hc
      exact (l3 _ (by omega) (by omega)).trans (s4 c hc)
  · have l3 : ∀ j, j ≠ 5 → ¬ (2009 ≤ j ∧ j < 2009 + 900) → f2 j = f j := l3
    have wh5 : mo_lw f2 3 209 N.2.2.2.2.1 := ⟨(l3 3 (by omega) (by omega)).trans h5.1, fun i hi => (l3 _ (by omega) (by omega)).trans (h5.2 i hi)⟩
    have wh7 : mo_lw f2 4 1109 N.2.2.2.2.2.1 := ⟨(l3 4 (by omega) (by omega)).trans h7.1, fun i hi => (l3 _ (by omega) (by omega)).trans (h7.2 i hi)⟩
    refine ⟨⟨(l3 0 (by omega) (by omega)).trans h1, (l3 1 (by omega) (by omega)).trans h2, (l3 2 (by omega) (by omega)).trans h3, fun i hi => ?_, wh5, wh7, ⟨l1, l2⟩⟩, ⟨(l3 7 (by omega) (by omega)).trans s1, fun i hi => absurd hi (Nat.not_lt_zero _), fun c hc => ?_, fun c hc => ?_⟩, (l3 6 (by omega) (by omega)).trans h9, fun i hi => absurd hi (Nat.not_lt_zero _)⟩
    · have hi : i < N.2.2.1.length := hi
      exact (l3 _ (by omega) (by omega)).trans (h4 i hi)
    · have hc : c < N.1.length := hc
      exact (l3 _ (by omega) (by omega)).trans (s3 c hc)
    · have hc : c < N.2.1.length := hc
      exact (l3 _ (by omega) (by omega)).trans (s4 c hc)
theorem tx_kn_line {f f2 : Nat → Int32} {N : tx_N} (h : tx_kn f N) (e1 : f2 0 = nI (N.2.2.2.1 + 1)) (eo : ∀ j, j ≠ 0 → f2 j = f j) : tx_kn f2 (tx_ln1 N) := by
  obtain ⟨⟨h1, h2, h3, h4, h5, h7, h8⟩, ⟨s1, s2, s3, s4⟩, h9, h10⟩ := h
  exact ⟨⟨e1, (eo 1 (by omega)).trans h2, (eo 2 (by omega)).trans h3, fun i hi => (eo _ (by omega)).trans (h4 i hi), ⟨(eo 3 (by omega)).trans h5.1, fun i hi => (eo _ (by omega)).trans (h5.2 i hi)⟩, ⟨(eo 4 (by omega)).trans h7.1, fun i hi => (eo _ (by omega)).trans (h7.2 i hi)⟩, ⟨(eo 5 (by omega)).trans h8.1, fun i hi => (eo _ (by omega)).trans (h8.2 i hi)⟩⟩, ⟨(eo 7 (by omega)).trans s1, fun i hi => absurd hi (Nat.not_lt_zero _), fun c hc => (eo _ (by omega)).trans (s3 c hc), fun c hc => (eo _ (by omega)).trans (s4 c hc)⟩, (eo 6 (by omega)).trans h9, fun i hi => absurd hi (Nat.not_lt_zero _)⟩
section RT6
variable {g : nd_G} {d : Nat} {K : nd_K} {h h0 : nd_H} {A : Nat → Nat → Int32} {F : Nat → Int32} {B : Nat → Nat → Int64} {T : List Nat} {dp : Nat}
theorem sr_begins (hg : nd_OK g) (hd : 2 ≤ d) (hw : mo_W h0 A F B h) (htp : tx_tp A T) {x : List Nat × Nat} (hin : x.2 ≤ T.length) (hZ : tx_Z T dp (.inl x) F) {m most n : Nat} (hm : m < 2912) (hA : A 1 m = nI n) (hn : n < 1000) (hmo : most < 1000) (h3 : tx_k T x.2 ≠ 3) (hk : ∀ F2 h2, mo_W h0 A F2 B h2 → tx_y F F2 → tx_Z T dp (tx_bind (.inl x) (tx_full T (n == most))) F2 → K (.inl (some (.int (nd_b (!(n == most)))))) h2) : nd_M g mX7_begins d 0 0 [.ref 101, .int (nI m), .int (nI most)] h K := by
  have hZ2 := hZ
  obtain ⟨f7, f8, f9, f10, f11, f12, f16⟩ := hZ
  refine nd_enter hg (by decide) rfl (Nat.le_of_ble_eq_true rfl) (fun X hC => ?_)
  refine nd_aload_n hC dX7_begins_0 rfl rfl ?_
  refine mo_get_telling hC hw rfl dX7_begins_1 ?_
  refine nd_iload_n hC dX7_begins_4 rfl ?_
  refine nd_ialoadN hC hw.telling (by omega) (by decide) dX7_begins_5 ?_
  refine nd_v_eq (congrArg Value.int (hA)) ?_
  refine nd_iload_n hC dX7_begins_6 rfl ?_
  first | with_reducible refine nd_icmp_neN hC (tgt := 15) (by omega) (by omega) dX7_begins_7 (by decide) (fun hc => ?_) (fun hc => ?_) | refine nd_icmp_ne hC (tgt := 15) dX7_begins_7 (by decide) (fun hc => ?_) (fun hc => ?_)
  · have e : (n == most) = false := by simpa using hc
    rw [e] at hk
    rw [tx_bind_g (f2 := tx_on T) (by rfl), tx_bind_on] at hk
    refine nd_aload_n hC dX7_begins_15 rfl rfl ?_
    refine mo_get_bad hC hw rfl dX7_begins_16 ?_
    refine nd_v_eq (congrArg Value.int (f12)) ?_
    first | with_reducible refine nd_if_neB hC (tgt := 26) dX7_begins_19 (by decide) (fun hq => ?_) (fun hq => ?_) | with_reducible refine nd_if_neN hC (tgt := 26) (by omega) dX7_begins_19 (by decide) (fun hq => ?_) (fun hq => ?_) | refine nd_if_ne hC (tgt := 26) dX7_begins_19 (by decide) (fun hq => ?_) (fun hq => ?_)
    · exact absurd rfl hq
    · refine nd_aload_n hC dX7_begins_22 rfl rfl ?_
      refine mo_callV (As := []) (d2 := d - 1) hC hw rfl lkX7_131 lyX7_131 (Nat.le_of_ble_eq_true rfl) (by omega) rfl (by exact Nat.le_of_ble_eq_true rfl) (Nat.zero_le _) (Nat.zero_le _) dX7_begins_23 rfl ((sr_on hg (by omega) hw htp (tx_h_le T hin) f7 f8 f12 f16 (fun F2 h2 hw fr hF => ?_)))
      refine nd_aload_n hC dX7_begins_26 rfl rfl ?_
      refine mo_get_bad hC hw rfl dX7_begins_27 ?_
      refine nd_v_eq (congrArg Value.int (hF.2.2.2.2.2.1)) ?_
      first | with_reducible refine nd_if_neB hC (tgt := 37) dX7_begins_30 (by decide) (fun hq2 => ?_) (fun hq2 => ?_) | with_reducible refine nd_if_neN hC (tgt := 37) (by omega) dX7_begins_30 (by decide) (fun hq2 => ?_) (fun hq2 => ?_) | refine nd_if_ne hC (tgt := 37) dX7_begins_30 (by decide) (fun hq2 => ?_) (fun hq2 => ?_)
      · exact absurd rfl hq2
      · refine nd_iconst hC (v := nI 1) (by rfl) dX7_begins_33 ?_
        refine nd_goto hC (tgt := 38) dX7_begins_34 (by decide) ?_
        refine nd_ireturn hC rfl (by first | rfl | exact nd_b_nar _) (by omega) (by omega) dX7_begins_38 ((hk F2 h2 hw (tx_y.on fr) hF))
  · have e : (n == most) = true := by simpa using hc
    rw [e] at hk
    rw [tx_bind_ce (e := (4, tx_b T x.2)) (by rfl)] at hk
    refine nd_aload_n hC dX7_begins_10 rfl rfl ?_
    refine nd_iconst hC (v := nI 4) (by rfl) dX7_begins_11 ?_
    refine mo_callV (As := [_]) (d2 := d - 1) hC hw rfl lkX7_134 lyX7_134 (Nat.le_of_ble_eq_true rfl) (by omega) rfl (by exact Nat.le_of_ble_eq_true rfl) (Nat.zero_le _) (Nat.zero_le _) dX7_begins_12 rfl ((sr_blames hg hw hZ2 (by omega) (by omega) (fun F2 h2 hw y2 Z2 => ?_)))
    rw [show tx_bl T 4 (.inl x) = (4, tx_b T x.2) by show ((if tx_k T x.2 = 3 then 1 else 4), tx_b T x.2) = _; rw [if_neg h3]] at Z2
    refine nd_aload_n hC dX7_begins_15 rfl rfl ?_
    refine mo_get_bad hC hw rfl dX7_begins_16 ?_
    refine nd_v_eq (congrArg Value.int (Z2.1)) ?_
    first | with_reducible refine nd_if_neB hC (tgt := 26) dX7_begins_19 (by decide) (fun hq => ?_) (fun hq => ?_) | with_reducible refine nd_if_neN hC (tgt := 26) (by omega) dX7_begins_19 (by decide) (fun hq => ?_) (fun hq => ?_) | refine nd_if_ne hC (tgt := 26) dX7_begins_19 (by decide) (fun hq => ?_) (fun hq => ?_)
    · refine nd_aload_n hC dX7_begins_26 rfl rfl ?_
      refine mo_get_bad hC hw rfl dX7_begins_27 ?_
      refine nd_v_eq (congrArg Value.int (Z2.1)) ?_
      first | with_reducible refine nd_if_neB hC (tgt := 37) dX7_begins_30 (by decide) (fun hq2 => ?_) (fun hq2 => ?_) | with_reducible refine nd_if_neN hC (tgt := 37) (by omega) dX7_begins_30 (by decide) (fun hq2 => ?_) (fun hq2 => ?_) | refine nd_if_ne hC (tgt := 37) dX7_begins_30 (by decide) (fun hq2 => ?_) (fun hq2 => ?_)
      · refine nd_iconst hC (v := nI 0) (by rfl) dX7_begins_37 ?_
        refine nd_ireturn hC rfl (by first | rfl | exact nd_b_nar _) (by omega) (by omega) dX7_begins_38 ((hk F2 h2 hw y2 Z2))
      · exact absurd (show 4 = 0 from hq2) (by decide)
    · exact absurd (show 4 = 0 from hq) (by decide)
theorem sr_cell (hg : nd_OK g) (hd : 7 ≤ d) (hw : mo_W h0 A F B h) (htp : tx_tp A T) {p : Nat} (hin : p ≤ T.length) (hZ : tx_Z T dp (.inl ([], p)) F) {N : tx_N} (hN : tx_NI N) (hkn : tx_kn (A 1) N) (h3 : tx_k T p ≠ 3) (hk : ∀ A2 F2 h2, mo_W h0 A2 F2 B h2 → (∀ k, k ≠ 1 → A2 k = A k) → tx_y F F2 → tx_Z T dp (tx_lcell T N.1.length p) F2 → (∀ z, tx_lcell T N.1.length p = .inl z → tx_kn (A2 1) (tx_put N 0 z.1)) → K (.inl none) h2) : nd_M g mX7_readCell d 0 0 [.ref 101] h K := by
  have n1 : N.1.length ≤ 6 := hN.1
  have h1 : A 1 1 = nI N.1.length := hkn.1.2.1
  have e1 : tx_bind (.inl ([], p)) (tx_full T (N.1.length == 6)) = tx_full T (N.1.length == 6) p := tx_bind_0 _ _
  have hG1 : tx_gd T 0 (tx_full T (N.1.length == 6) p) := by
    have := tx_G_full T (N.1.length == 6) p hin
    cases hq : tx_full T (N.1.length == 6) p with
    | inl z => rw [hq] at this; exact ⟨by have := this.1; omega, this.2⟩
    | inr e => rw [hq] at this; exact this
  refine nd_enter hg (by decide) rfl (Nat.le_of_ble_eq_true rfl) (fun X hC => ?_)
  refine nd_aload_n hC dX7_readCell_0 rfl rfl ?_
  refine nd_iconst hC (v := nI 1) (by rfl) dX7_readCell_1 ?_
  refine nd_bipush hC (v := nI 6) (by rfl) dX7_readCell_2 ?_
  refine mo_callV (As := [_, _]) (d2 := d - 1) hC hw rfl lkX7_213 lyX7_213 (Nat.le_of_ble_eq_true rfl) (by omega) rfl (by exact Nat.le_of_ble_eq_true rfl) (Nat.zero_le _) (Nat.zero_le _) dX7_readCell_4 rfl ((sr_begins hg (by omega) hw htp hin hZ (by omega) h1 (by omega) (by omega) h3 (fun F2 h2 hw y2 Z2 => ?_)))
  rw [e1] at Z2
  have hG2 := tx_gd_bind hG1 (tx_G_num T 99)
  have hG3 := tx_gd_bind hG2 (tx_G_mw T tx_back)
  first | with_reducible refine nd_if_neB hC (tgt := 11) dX7_readCell_7 (by decide) (fun hc => ?_) (fun hc => ?_) | with_reducible refine nd_if_neN hC (tgt := 11) (by omega) dX7_readCell_7 (by decide) (fun hc => ?_) (fun hc => ?_) | refine nd_if_ne hC (tgt := 11) dX7_readCell_7 (by decide) (fun hc => ?_) (fun hc => ?_)
  · have hc : (N.1.length == 6) = false := by simpa using hc
    refine nd_aload_n hC dX7_readCell_11 rfl rfl ?_
    refine nd_iconst hC (v := nI 0) (by rfl) dX7_readCell_12 ?_
    refine nd_bipush hC (v := nI 99) (by rfl) dX7_readCell_13 ?_
    refine mo_callV (As := [_, _]) (d2 := d - 1) hC hw rfl lkX7_209 lyX7_209 (Nat.le_of_ble_eq_true rfl) (by omega) rfl (by exact Nat.le_of_ble_eq_true rfl) (Nat.zero_le _) (Nat.zero_le _) dX7_readCell_15 rfl ((sr_number hg (by omega) hw htp hG1.i Z2 (by omega) (fun v F3 h3 hw y3 Z3 v3 => ?_)))
    refine nd_istore_n hC dX7_readCell_18 (Nat.le_of_ble_eq_true rfl) ?_
    refine nd_aload_n hC dX7_readCell_19 rfl rfl ?_
    refine nd_ldcS hC (i := 18) (r := ("NapkinDeedsModel", 217, "back", [98, 97, 99, 107])) rfl rfl dX7_readCell_20 ?_
    refine mo_callV (As := [_]) (d2 := d - 1) hC hw rfl lkX7_219 lyX7_219 (Nat.le_of_ble_eq_true rfl) (by omega) rfl (by exact Nat.le_of_ble_eq_true rfl) (Nat.zero_le _) (Nat.zero_le _) dX7_readCell_22 rfl ((sr_mustWord (rr := ("NapkinDeedsModel", 217, "back", [98, 97, 99, 107])) hg (by omega) hw htp hG2.i Z3 rfl (fun F4 h4 hw y4 Z4 => ?_)))
    refine nd_aload_n hC dX7_readCell_25 rfl rfl ?_
    refine nd_iconst hC (v := nI 0) (by rfl) dX7_readCell_26 ?_
    refine nd_bipush hC (v := nI 99) (by rfl) dX7_readCell_27 ?_
    refine mo_callV (As := [_, _]) (d2 := d - 1) hC hw rfl lkX7_209 lyX7_209 (Nat.le_of_ble_eq_true rfl) (by omega) rfl (by exact Nat.le_of_ble_eq_true rfl) (Nat.zero_le _) (Nat.zero_le _) dX7_readCell_29 rfl ((sr_number hg (by omega) hw htp hG3.i Z4 (by omega) (fun v2 F5 h5 hw y5 Z5 v5 => ?_)))
    have yy := ((y2.trans y3).trans y4).trans y5
    have Z5 : tx_Z T dp (tx_lcell T N.1.length p) F5 := Z5
    cases e6 : tx_lcell T N.1.length p with
    | inr e =>
      rw [e6] at Z5 hk
      have z34 := Z5.2.2
      refine nd_istore_n hC dX7_readCell_32 (Nat.le_of_ble_eq_true rfl) ?_
      refine nd_aload_n hC dX7_readCell_33 rfl rfl ?_
      refine mo_get_bad hC hw rfl dX7_readCell_34 ?_
      refine nd_v_eq (congrArg Value.int (Z5.1)) ?_
      first | with_reducible refine nd_if_eqB hC (tgt := 41) dX7_readCell_37 (by decide) (fun hq => ?_) (fun hq => ?_) | with_reducible refine nd_if_eqN hC (tgt := 41) (by omega) dX7_readCell_37 (by decide) (fun hq => ?_) (fun hq => ?_) | refine nd_if_eq hC (tgt := 41) dX7_readCell_37 (by decide) (fun hq => ?_) (fun hq => ?_)
      · omega
      · refine nd_return hC rfl (by omega) (by omega) dX7_readCell_40 ((hk A F5 h5 hw (fun _ _ => rfl) yy Z5 (fun z ez => by cases ez)))
    | inl z =>
      rw [e6] at Z5 hk
      obtain ⟨x1, y1, q1, q2, q3⟩ := tx_bind_inl e6
      obtain ⟨x2, y2', q4, q5, q6⟩ := tx_bind_inl q1
      obtain ⟨x3, y3', q7, q8, q9⟩ := tx_bind_inl q4
      have ev := v3 x3 y3' q7 q8
      have ev2 := v5 x1 y1 q1 q2
      obtain ⟨-, a2, a3⟩ := tx_num_inl q8
      obtain ⟨-, b2, b3⟩ := tx_num_inl q2
      have ez : z.1 = [tx_v T x3.2, tx_v T x1.2] := by
        have c1 : x3.1 = [] := by
          unfold tx_full at q7
          rw [hc] at q7
          cases q7; rfl
        have c2 : y2'.1 = [] := by
          unfold tx_mw at q5
          split at q5
          · cases q5; rfl
          · cases q5
        have e0 : z.1 = ((x3.1 ++ y3'.1) ++ y2'.1) ++ y1.1 := by
          rw [q3]
          show x1.1 ++ y1.1 = _
          rw [show x1.1 = x2.1 ++ y2'.1 by rw [q6], show x2.1 = x3.1 ++ y3'.1 by rw [q9]]
        rw [e0, c1, c2, a3, b3]; rfl
      subst ev
      subst ev2
      refine nd_istore_n hC dX7_readCell_32 (Nat.le_of_ble_eq_true rfl) ?_
      refine nd_aload_n hC dX7_readCell_33 rfl rfl ?_
      refine mo_get_bad hC hw rfl dX7_readCell_34 ?_
      refine nd_v_eq (congrArg Value.int (Z5.2.2.2.2.2.1)) ?_
      first | with_reducible refine nd_if_eqB hC (tgt := 41) dX7_readCell_37 (by decide) (fun hq => ?_) (fun hq => ?_) | with_reducible refine nd_if_eqN hC (tgt := 41) (by omega) dX7_readCell_37 (by decide) (fun hq => ?_) (fun hq => ?_) | refine nd_if_eq hC (tgt := 41) dX7_readCell_37 (by decide) (fun hq => ?_) (fun hq => ?_)
      · refine nd_aload_n hC dX7_readCell_41 rfl rfl ?_
        refine mo_get_telling hC hw rfl dX7_readCell_42 ?_
        refine nd_bipush hC (v := nI 13) (by rfl) dX7_readCell_45 ?_
        refine nd_aload_n hC dX7_readCell_47 rfl rfl ?_
        refine mo_get_telling hC hw rfl dX7_readCell_48 ?_
        refine nd_iconst hC (v := nI 1) (by rfl) dX7_readCell_51 ?_
        refine nd_ialoadN hC hw.telling (by omega) (by decide) dX7_readCell_52 ?_
        refine nd_v_eq (congrArg Value.int (h1)) ?_
        first | with_reducible refine nd_iaddN hC dX7_readCell_53 ?_ | refine nd_iadd hC dX7_readCell_53 ?_
        refine nd_iload_n hC dX7_readCell_54 rfl ?_
        refine mo_ast_telling hC hw (by omega) dX7_readCell_55 (fun h hw => ?_)
        try simp only [va_up_up, va_up_s] at hw
        refine nd_aload_n hC dX7_readCell_56 rfl rfl ?_
        refine mo_get_telling hC hw rfl dX7_readCell_57 ?_
        refine nd_bipush hC (v := nI 19) (by rfl) dX7_readCell_60 ?_
        refine nd_aload_n hC dX7_readCell_62 rfl rfl ?_
        refine mo_get_telling hC hw rfl dX7_readCell_63 ?_
        refine nd_iconst hC (v := nI 1) (by rfl) dX7_readCell_66 ?_
        refine nd_ialoadN hC hw.telling (by omega) (by decide) dX7_readCell_67 ?_
        refine nd_v_eq (congrArg Value.int (show (va_up A 1 (upd (A 1) (13 + N.1.length) (nI (tx_v T x3.2)))) 1 1 = nI N.1.length by rw [va_up_s, upd_n (by omega)]; exact h1)) ?_
        first | with_reducible refine nd_iaddN hC dX7_readCell_68 ?_ | refine nd_iadd hC dX7_readCell_68 ?_
        refine nd_iload_n hC dX7_readCell_69 rfl ?_
        refine mo_ast_telling hC hw (by omega) dX7_readCell_70 (fun h hw => ?_)
        try simp only [va_up_up, va_up_s] at hw
        refine nd_aload_n hC dX7_readCell_71 rfl rfl ?_
        refine mo_get_telling hC hw rfl dX7_readCell_72 ?_
        refine nd_iconst hC (v := nI 1) (by rfl) dX7_readCell_75 ?_
        refine nd_dup2_11 hC (by rfl) (by rfl) dX7_readCell_76 ?_
        refine nd_ialoadN hC hw.telling (by omega) (by decide) dX7_readCell_77 ?_
        refine nd_v_eq (congrArg Value.int (show (va_up A 1 (upd (upd (A 1) (13 + N.1.length) (nI (tx_v T x3.2))) (19 + N.1.length) (nI (tx_v T x1.2)))) 1 1 = nI N.1.length by rw [va_up_s, upd_n (by omega), upd_n (by omega)]; exact h1)) ?_
        refine nd_iconst hC (v := nI 1) (by rfl) dX7_readCell_78 ?_
        first | with_reducible refine nd_iaddN hC dX7_readCell_79 ?_ | refine nd_iadd hC dX7_readCell_79 ?_
        refine mo_ast_telling hC hw (by omega) dX7_readCell_80 (fun h hw => ?_)
        try simp only [va_up_up, va_up_s] at hw
        refine nd_return hC rfl (by omega) (by omega) dX7_readCell_81 (hk _ F5 h hw (fun k hk => va_up_n _ _ hk) yy Z5 (fun z2 ez2 => ?_))
        cases ez2
        rw [ez, va_up_s]
        have h6 : N.1.length ≠ 6 := by simpa using hc
        exact tx_kn_cell hN hkn h6 (upd_s ..) (by rw [upd_n (by omega), upd_n (by omega), upd_s]) (by rw [upd_n (by omega), upd_s]) (fun j j1 j2 j3 => by rw [upd_n j1, upd_n j3, upd_n j2])
      · exact absurd rfl hq
  · have hc : (N.1.length == 6) = true := by simpa using hc
    have e9 : tx_lcell T N.1.length p = .inr (4, tx_b T p) := by unfold tx_lcell tx_full; rw [hc]; rfl
    have e8 : tx_full T (N.1.length == 6) p = .inr (4, tx_b T p) := by unfold tx_full; rw [hc]; rfl
    rw [e8] at Z2
    rw [e9] at hk
    refine nd_return hC rfl (by omega) (by omega) dX7_readCell_10 ((hk A F2 h2 hw (fun _ _ => rfl) y2 Z2 (fun z ez => by cases ez)))
theorem sr_guest (hg : nd_OK g) (hd : 7 ≤ d) (hw : mo_W h0 A F B h) (htp : tx_tp A T) {p : Nat} (hin : p ≤ T.length) (hZ : tx_Z T dp (.inl ([], p)) F) {N : tx_N} (hN : tx_NI N) (hkn : tx_kn (A 1) N) (h3 : tx_k T p ≠ 3) (hk : ∀ A2 F2 h2, mo_W h0 A2 F2 B h2 → (∀ k, k ≠ 1 → A2 k = A k) → tx_y F F2 → tx_Z T dp (tx_lguest T N.2.2.1.length p) F2 → (∀ z, tx_lguest T N.2.2.1.length p = .inl z → tx_kn (A2 1) (tx_put N 1 z.1)) → K (.inl none) h2) : nd_M g mX7_readGuest d 0 0 [.ref 101] h K := by
  have n3 : N.2.2.1.length ≤ 4 := hN.2.2.1
  have h1 : A 1 2 = nI N.2.2.1.length := hkn.1.2.2.1
  have e1 : tx_bind (.inl ([], p)) (tx_full T (N.2.2.1.length == 4)) = tx_full T (N.2.2.1.length == 4) p := tx_bind_0 _ _
  have hG1 : tx_gd T 0 (tx_full T (N.2.2.1.length == 4) p) := by
    have := tx_G_full T (N.2.2.1.length == 4) p hin
    cases hq : tx_full T (N.2.2.1.length == 4) p with
    | inl z => rw [hq] at this; exact ⟨by have := this.1; omega, this.2⟩
    | inr e => rw [hq] at this; exact this
  refine nd_enter hg (by decide) rfl (Nat.le_of_ble_eq_true rfl) (fun X hC => ?_)
  refine nd_aload_n hC dX7_readGuest_0 rfl rfl ?_
  refine nd_iconst hC (v := nI 2) (by rfl) dX7_readGuest_1 ?_
  refine nd_iconst hC (v := nI 4) (by rfl) dX7_readGuest_2 ?_
  refine mo_callV (As := [_, _]) (d2 := d - 1) hC hw rfl lkX7_213 lyX7_213 (Nat.le_of_ble_eq_true rfl) (by omega) rfl (by exact Nat.le_of_ble_eq_true rfl) (Nat.zero_le _) (Nat.zero_le _) dX7_readGuest_3 rfl ((sr_begins hg (by omega) hw htp hin hZ (by omega) h1 (by omega) (by omega) h3 (fun F2 h2 hw y2 Z2 => ?_)))
  rw [e1] at Z2
  first | with_reducible refine nd_if_neB hC (tgt := 10) dX7_readGuest_6 (by decide) (fun hc => ?_) (fun hc => ?_) | with_reducible refine nd_if_neN hC (tgt := 10) (by omega) dX7_readGuest_6 (by decide) (fun hc => ?_) (fun hc => ?_) | refine nd_if_ne hC (tgt := 10) dX7_readGuest_6 (by decide) (fun hc => ?_) (fun hc => ?_)
  · have hc : (N.2.2.1.length == 4) = false := by simpa using hc
    refine nd_aload_n hC dX7_readGuest_10 rfl rfl ?_
    refine nd_iconst hC (v := nI 0) (by rfl) dX7_readGuest_11 ?_
    refine nd_bipush hC (v := nI 99) (by rfl) dX7_readGuest_12 ?_
    refine mo_callV (As := [_, _]) (d2 := d - 1) hC hw rfl lkX7_209 lyX7_209 (Nat.le_of_ble_eq_true rfl) (by omega) rfl (by exact Nat.le_of_ble_eq_true rfl) (Nat.zero_le _) (Nat.zero_le _) dX7_readGuest_14 rfl ((sr_number hg (by omega) hw htp hG1.i Z2 (by omega) (fun v F3 h3 hw y3 Z3 v3 => ?_)))
    have yy := y2.trans y3
    have Z5 : tx_Z T dp (tx_lguest T N.2.2.1.length p) F3 := Z3
    cases e6 : tx_lguest T N.2.2.1.length p with
    | inr e =>
      rw [e6] at Z5 hk
      have z34 := Z5.2.2
      refine nd_istore_n hC dX7_readGuest_17 (Nat.le_of_ble_eq_true rfl) ?_
      refine nd_aload_n hC dX7_readGuest_18 rfl rfl ?_
      refine mo_get_bad hC hw rfl dX7_readGuest_19 ?_
      refine nd_v_eq (congrArg Value.int (Z5.1)) ?_
      first | with_reducible refine nd_if_eqB hC (tgt := 26) dX7_readGuest_22 (by decide) (fun hq => ?_) (fun hq => ?_) | with_reducible refine nd_if_eqN hC (tgt := 26) (by omega) dX7_readGuest_22 (by decide) (fun hq => ?_) (fun hq => ?_) | refine nd_if_eq hC (tgt := 26) dX7_readGuest_22 (by decide) (fun hq => ?_) (fun hq => ?_)
      · omega
      · refine nd_return hC rfl (by omega) (by omega) dX7_readGuest_25 ((hk A F3 h3 hw (fun _ _ => rfl) yy Z5 (fun z ez => by cases ez)))
    | inl z =>
      rw [e6] at Z5 hk
      obtain ⟨x3, y3', q7, q8, q9⟩ := tx_bind_inl e6
      have ev := v3 x3 y3' q7 q8
      obtain ⟨-, a2, a3⟩ := tx_num_inl q8
      have ez : z.1 = [tx_v T x3.2] := by
        have c1 : x3.1 = [] := by
          unfold tx_full at q7
          rw [hc] at q7
          cases q7; rfl
        rw [q9, c1, a3]; rfl
      subst ev
      refine nd_istore_n hC dX7_readGuest_17 (Nat.le_of_ble_eq_true rfl) ?_
      refine nd_aload_n hC dX7_readGuest_18 rfl rfl ?_
      refine mo_get_bad hC hw rfl dX7_readGuest_19 ?_
      refine nd_v_eq (congrArg Value.int (Z5.2.2.2.2.2.1)) ?_
      first | with_reducible refine nd_if_eqB hC (tgt := 26) dX7_readGuest_22 (by decide) (fun hq => ?_) (fun hq => ?_) | with_reducible refine nd_if_eqN hC (tgt := 26) (by omega) dX7_readGuest_22 (by decide) (fun hq => ?_) (fun hq => ?_) | refine nd_if_eq hC (tgt := 26) dX7_readGuest_22 (by decide) (fun hq => ?_) (fun hq => ?_)
      · refine nd_aload_n hC dX7_readGuest_26 rfl rfl ?_
        refine mo_get_telling hC hw rfl dX7_readGuest_27 ?_
        refine nd_bipush hC (v := nI 25) (by rfl) dX7_readGuest_30 ?_
        refine nd_aload_n hC dX7_readGuest_32 rfl rfl ?_
        refine mo_get_telling hC hw rfl dX7_readGuest_33 ?_
        refine nd_iconst hC (v := nI 2) (by rfl) dX7_readGuest_36 ?_
        refine nd_ialoadN hC hw.telling (by omega) (by decide) dX7_readGuest_37 ?_
        refine nd_v_eq (congrArg Value.int (h1)) ?_
        first | with_reducible refine nd_iaddN hC dX7_readGuest_38 ?_ | refine nd_iadd hC dX7_readGuest_38 ?_
        refine nd_iload_n hC dX7_readGuest_39 rfl ?_
        refine mo_ast_telling hC hw (by omega) dX7_readGuest_40 (fun h hw => ?_)
        try simp only [va_up_up, va_up_s] at hw
        refine nd_aload_n hC dX7_readGuest_41 rfl rfl ?_
        refine mo_get_telling hC hw rfl dX7_readGuest_42 ?_
        refine nd_iconst hC (v := nI 2) (by rfl) dX7_readGuest_45 ?_
        refine nd_dup2_11 hC (by rfl) (by rfl) dX7_readGuest_46 ?_
        refine nd_ialoadN hC hw.telling (by omega) (by decide) dX7_readGuest_47 ?_
        refine nd_v_eq (congrArg Value.int (show (va_up A 1 (upd (A 1) (25 + N.2.2.1.length) (nI (tx_v T x3.2)))) 1 2 = nI N.2.2.1.length by rw [va_up_s, upd_n (by omega)]; exact h1)) ?_
        refine nd_iconst hC (v := nI 1) (by rfl) dX7_readGuest_48 ?_
        first | with_reducible refine nd_iaddN hC dX7_readGuest_49 ?_ | refine nd_iadd hC dX7_readGuest_49 ?_
        refine mo_ast_telling hC hw (by omega) dX7_readGuest_50 (fun h hw => ?_)
        try simp only [va_up_up, va_up_s] at hw
        refine nd_return hC rfl (by omega) (by omega) dX7_readGuest_51 (hk _ F3 h hw (fun k hk => va_up_n _ _ hk) yy Z5 (fun z2 ez2 => ?_))
        cases ez2
        rw [ez, va_up_s]
        have h6 : N.2.2.1.length ≠ 4 := by simpa using hc
        exact tx_kn_guest hN hkn h6 (upd_s ..) (by rw [upd_n (by omega), upd_s]) (fun j j1 j2 => by rw [upd_n j1, upd_n j2])
      · exact absurd rfl hq
  · have hc : (N.2.2.1.length == 4) = true := by simpa using hc
    have e9 : tx_lguest T N.2.2.1.length p = .inr (4, tx_b T p) := by unfold tx_lguest tx_full; rw [hc]; rfl
    have e8 : tx_full T (N.2.2.1.length == 4) p = .inr (4, tx_b T p) := by unfold tx_full; rw [hc]; rfl
    rw [e8] at Z2
    rw [e9] at hk
    refine nd_return hC rfl (by omega) (by omega) dX7_readGuest_9 ((hk A F2 h2 hw (fun _ _ => rfl) y2 Z2 (fun z ez => by cases ez)))
theorem sr_beginsLaw (hg : nd_OK g) (hd : 3 ≤ d) (hw : mo_W h0 A F B h) (htp : tx_tp A T) {x : List Nat × Nat} (hin : x.2 ≤ T.length) (hZ : tx_Z T dp (.inl x) F) {lm la : Nat} (hlo : tx_lo lm la) (hk : ∀ F2 h2, mo_W h0 (va_up A 1 (upd (A 1) lm (nI 0))) F2 B h2 → tx_u F F2 → F2 17 = nI lm → F2 18 = nI la → tx_Z T dp (tx_bind (.inl x) (tx_must T 58)) F2 → K (.inl none) h2) : nd_M g mX7_beginsLaw d 0 0 [.ref 101, .int (nI lm), .int (nI la)] h K := by
  obtain ⟨o1, o2, o3, o4⟩ := hlo
  refine nd_enter hg (by decide) rfl (Nat.le_of_ble_eq_true rfl) (fun X hC => ?_)
  refine nd_aload_n hC dX7_beginsLaw_0 rfl rfl ?_
  refine nd_iload_n hC dX7_beginsLaw_1 rfl ?_
  refine mo_put_lawMany hC hw rfl dX7_beginsLaw_2 (fun h hw => ?_)
  refine nd_aload_n hC dX7_beginsLaw_5 rfl rfl ?_
  refine nd_iload_n hC dX7_beginsLaw_6 rfl ?_
  refine mo_put_lawAt hC hw rfl dX7_beginsLaw_7 (fun h hw => ?_)
  refine nd_aload_n hC dX7_beginsLaw_10 rfl rfl ?_
  refine mo_get_telling hC hw rfl dX7_beginsLaw_11 ?_
  refine nd_iload_n hC dX7_beginsLaw_14 rfl ?_
  refine nd_iconst hC (v := nI 0) (by rfl) dX7_beginsLaw_15 ?_
  refine mo_ast_telling hC hw (by omega) dX7_beginsLaw_16 (fun h hw => ?_)
  try simp only [va_up_up, va_up_s] at hw
  refine nd_aload_n hC dX7_beginsLaw_17 rfl rfl ?_
  refine nd_bipush hC (v := nI 58) (by rfl) dX7_beginsLaw_18 ?_
  refine mo_callV (As := [_]) (d2 := d - 1) hC hw rfl lkX7_151 lyX7_151 (Nat.le_of_ble_eq_true rfl) (by omega) rfl (by exact Nat.le_of_ble_eq_true rfl) (Nat.zero_le _) (Nat.zero_le _) dX7_beginsLaw_20 rfl ((sr_mustSign (r := .inl x) (dp := dp) hg (by omega) hw (htp.k (fun k hk => va_up_n _ _ hk)) hin hZ (by omega) (fun F2 h2 hw y2 Z2 => ?_)))
  refine nd_return hC rfl (by omega) (by omega) dX7_beginsLaw_23 ((hk F2 h2 hw (((tx_u.rfl.up (j := 17) (by omega)).up (j := 18) (by omega)).trans y2.u) (y2 17 (by omega)) (y2 18 (by omega)) Z2))
theorem sr_stop (hg : nd_OK g) (hd : 3 ≤ d) (hw : mo_W h0 A F B h) (htp : tx_tp A T) {r : tx_R} (hin : tx_in T r) (hZ : tx_Z T dp r F) {N : tx_N} (hkn : ∀ z, r = .inl z → tx_kn (A 1) N ∧ N.2.2.2.1 < 2147483647) (hk : ∀ A2 F2 h2, mo_W h0 A2 F2 B h2 → (∀ k, k ≠ 1 → A2 k = A k) → tx_y F F2 → tx_Z T dp (tx_bind r (tx_must T 59)) F2 → (∀ z, tx_bind r (tx_must T 59) = .inl z → tx_kn (A2 1) (tx_ln1 N)) → K (.inl none) h2) : nd_M g mX7_readStop d 0 0 [.ref 101] h K := by
  refine nd_enter hg (by decide) rfl (Nat.le_of_ble_eq_true rfl) (fun X hC => ?_)
  refine nd_aload_n hC dX7_readStop_0 rfl rfl ?_
  refine nd_bipush hC (v := nI 59) (by rfl) dX7_readStop_1 ?_
  refine mo_callV (As := [_]) (d2 := d - 1) hC hw rfl lkX7_151 lyX7_151 (Nat.le_of_ble_eq_true rfl) (by omega) rfl (by exact Nat.le_of_ble_eq_true rfl) (Nat.zero_le _) (Nat.zero_le _) dX7_readStop_3 rfl ((sr_mustSign hg (by omega) hw htp hin hZ (by omega) (fun F2 h2 hw y2 Z2 => ?_)))
  cases e : tx_bind r (tx_must T 59) with
  | inr e1 =>
    rw [e] at Z2 hk
    have z1 := Z2.1
    have z34 := Z2.2.2
    refine nd_aload_n hC dX7_readStop_6 rfl rfl ?_
    refine mo_get_bad hC hw rfl dX7_readStop_7 ?_
    refine nd_v_eq (congrArg Value.int (z1)) ?_
    first | with_reducible refine nd_if_neB hC (tgt := 23) dX7_readStop_10 (by decide) (fun hq => ?_) (fun hq => ?_) | with_reducible refine nd_if_neN hC (tgt := 23) (by omega) dX7_readStop_10 (by decide) (fun hq => ?_) (fun hq => ?_) | refine nd_if_ne hC (tgt := 23) dX7_readStop_10 (by decide) (fun hq => ?_) (fun hq => ?_)
    · refine nd_return hC rfl (by omega) (by omega) dX7_readStop_23 ((hk A F2 h2 hw (fun _ _ => rfl) y2 Z2 (fun z ez => by cases ez)))
    · omega
  | inl z =>
    rw [e] at Z2 hk
    obtain ⟨x1, y1, q1, q2, q3⟩ := tx_bind_inl e
    obtain ⟨hkn, hl⟩ := hkn x1 q1
    have h0' : A 1 0 = nI N.2.2.2.1 := hkn.1.1
    refine nd_aload_n hC dX7_readStop_6 rfl rfl ?_
    refine mo_get_bad hC hw rfl dX7_readStop_7 ?_
    refine nd_v_eq (congrArg Value.int (Z2.2.2.2.2.2.1)) ?_
    first | with_reducible refine nd_if_neB hC (tgt := 23) dX7_readStop_10 (by decide) (fun hq => ?_) (fun hq => ?_) | with_reducible refine nd_if_neN hC (tgt := 23) (by omega) dX7_readStop_10 (by decide) (fun hq => ?_) (fun hq => ?_) | refine nd_if_ne hC (tgt := 23) dX7_readStop_10 (by decide) (fun hq => ?_) (fun hq => ?_)
    · exact absurd rfl hq
    · refine nd_aload_n hC dX7_readStop_13 rfl rfl ?_
      refine mo_get_telling hC hw rfl dX7_readStop_14 ?_
      refine nd_iconst hC (v := nI 0) (by rfl) dX7_readStop_17 ?_
      refine nd_dup2_11 hC (by rfl) (by rfl) dX7_readStop_18 ?_
      refine nd_ialoadN hC hw.telling (by omega) (by decide) dX7_readStop_19 ?_
      refine nd_v_eq (congrArg Value.int (h0')) ?_
      refine nd_iconst hC (v := nI 1) (by rfl) dX7_readStop_20 ?_
      first | with_reducible refine nd_iaddN hC dX7_readStop_21 ?_ | refine nd_iadd hC dX7_readStop_21 ?_
      refine mo_ast_telling hC hw (by omega) dX7_readStop_22 (fun h hw => ?_)
      try simp only [va_up_up, va_up_s] at hw
      refine nd_return hC rfl (by omega) (by omega) dX7_readStop_23 (hk _ F2 h hw (fun k hk => va_up_n _ _ hk) y2 Z2 (fun z2 ez2 => ?_))
      rw [va_up_s]
      exact tx_kn_line hkn (upd_s ..) (fun j hj => upd_n hj)
end RT6

