set_option maxRecDepth 100000
theorem tx_chain_n {T : List Nat} {item : Nat → tx_R} {op : Nat → Option Nat} {f p : Nat} (h : op p = none) : tx_chain T item op (f + 1) p = .inl ([], p) := by
  show (match op p with
    | none => (.inl ([], p) : tx_R)
    | some c => tx_bind (tx_bind (tx_bind (tx_on T p) item) (tx_lay c)) (tx_chain T item op f)) = _
  rw [h]
theorem tx_chain_s {T : List Nat} {item : Nat → tx_R} {op : Nat → Option Nat} {f p c : Nat} (h : op p = some c) : tx_chain T item op (f + 1) p = tx_bind (tx_bind (tx_bind (tx_on T p) item) (tx_lay c)) (tx_chain T item op f) := by
  show (match op p with
    | none => (.inl ([], p) : tx_R)
    | some c => tx_bind (tx_bind (tx_bind (tx_on T p) item) (tx_lay c)) (tx_chain T item op f)) = _
  rw [h]
theorem tx_chain_nb {T : List Nat} {item : Nat → tx_R} {op : Nat → Option Nat} {f : Nat} {x : List Nat × Nat} (h : op x.2 = none) : tx_bind (.inl x) (tx_chain T item op (f + 1)) = .inl x := by
  rw [tx_bind_c (tx_chain_n h)]
  simp
theorem tx_chain_sb {T : List Nat} {item : Nat → tx_R} {op : Nat → Option Nat} {f c : Nat} {x : List Nat × Nat} (h : op x.2 = some c) : tx_bind (.inl x) (tx_chain T item op (f + 1)) = tx_bind (tx_bind (tx_bind (.inl (x.1, tx_h T x.2)) item) (tx_lay c)) (tx_chain T item op f) := by
  rw [tx_bind_g (f2 := fun p => tx_bind (tx_bind (tx_bind (tx_on T p) item) (tx_lay c)) (tx_chain T item op f)) (tx_chain_s h), ← tx_bind_on]
  simp only [tx_bind_a]
theorem tx_seq_b (T : List Nat) (item : Nat → tx_R) (op : Nat → Option Nat) (r : tx_R) : tx_bind r (tx_seq T item op) = tx_bind (tx_bind r item) (tx_chain T item op (T.length + 1)) := (tx_bind_a ..).symm
section RT4
variable {g : nd_G} {d : Nat} {h0 : nd_H} {T : List Nat} {dp lm la : Nat}
theorem sr_term (hg : nd_OK g) (hd : 8 ≤ d) (hlo : tx_lo lm la) (hT : T.length ≤ 900) {item : Nat → tx_R} (hi : tx_C g h0 T mX7_readAtom (d - 1) dp lm la item) (hG : tx_G T item) : tx_C g h0 T mX7_readTerm d dp lm la (tx_seq T item (tx_times T)) := by
  intro r f0 A F B h K htp hw hQ hb hk
  rw [tx_seq_b] at hk
  refine nd_enter hg (by decide) rfl (Nat.le_of_ble_eq_true rfl) (fun X hC => ?_)
  have JE : ∀ (e : Nat × Nat) A4 F4 h4, mo_W h0 A4 F4 B h4 → (∀ k, k ≠ 1 → A4 k = A k) → tx_u F F4 → tx_Z T dp (.inr e) F4 → tx_bind (tx_bind r item) (tx_chain T item (tx_times T) (T.length + 1)) = .inr e → nd_W g mX7_readTerm d 0 0 K X 4 [some (.ref 101)] [] h4 0 0 := by
    intro e A4 F4 h4 hw frA frF hZ4 er
    rw [er] at hk
    refine nd_aload_n hC dX7_readTerm_4 rfl rfl ?_
    refine nd_bipush hC (v := nI 42) (by rfl) dX7_readTerm_5 ?_
    refine mo_callV (As := [_]) (d2 := d - 1) hC hw rfl lkX7_175 lyX7_175 (Nat.le_of_ble_eq_true rfl) (by omega) rfl (by exact Nat.le_of_ble_eq_true rfl) (Nat.zero_le _) (Nat.zero_le _) dX7_readTerm_7 rfl ((sr_isSign hg hw hZ4 (by omega) ?_))
    first | with_reducible refine nd_if_eqB hC (tgt := 30) dX7_readTerm_10 (by decide) (fun hc => ?_) (fun hc => ?_) | with_reducible refine nd_if_eqN hC (tgt := 30) (by omega) dX7_readTerm_10 (by decide) (fun hc => ?_) (fun hc => ?_) | refine nd_if_eq hC (tgt := 30) dX7_readTerm_10 (by decide) (fun hc => ?_) (fun hc => ?_)
    · refine nd_return hC rfl (by omega) (by omega) dX7_readTerm_30 ((hk A4 F4 h4 hw frA frF (tx_Q.e hZ4)))
    · exact absurd (show false = true from hc) (by decide)
  have L : ∀ fu (x : List Nat × Nat) A4 F4 h4, T.length < x.2 + fu → mo_W h0 A4 F4 B h4 → (∀ k, k ≠ 1 → A4 k = A k) → tx_u F F4 → tx_Q T dp lm la f0 (.inl x) A4 F4 → x.1.length ≤ x.2 → x.2 ≤ T.length → tx_bind (tx_bind r item) (tx_chain T item (tx_times T) (T.length + 1)) = tx_bind (.inl x) (tx_chain T item (tx_times T) fu) → nd_W g mX7_readTerm d 0 0 K X 4 [some (.ref 101)] [] h4 0 0 := by
    intro fu
    induction fu with
    | zero => intro x A4 F4 h4 hf hw frA frF hQ4 hb4 hb5 er; omega
    | succ fu ih =>
      intro x A4 F4 h4 hf hw frA frF hQ4 hb4 hb5 er
      have hin : tx_in T (.inl x) := hb5
      have hkl := tx_k_lt T x.2
      have hRET : (tx_times T) x.2 = none → ∀ F5 h5, mo_W h0 A4 F5 B h5 → tx_y F4 F5 → tx_Z T dp (.inl x) F5 → K (.inl none) h5 := by
        intro hn F5 h5 hw5 y5 Z5
        rw [er, tx_chain_nb hn] at hk
        exact hk A4 F5 h5 hw5 frA (frF.trans y5.u) (hQ4.y y5 Z5 rfl)
      have hITEM : ∀ c, (tx_times T) x.2 = some c → tx_k T x.2 ≠ 0 → ∀ F5 h5, mo_W h0 A4 F5 B h5 → tx_y F4 F5 → tx_Z T dp (.inl (x.1, tx_h T x.2)) F5 → ∀ K2, (∀ (e : Nat × Nat) A6 F6 h6, mo_W h0 A6 F6 B h6 → (∀ k, k ≠ 1 → A6 k = A k) → tx_u F F6 → tx_Z T dp (.inr e) F6 → tx_bind (tx_bind r item) (tx_chain T item (tx_times T) (T.length + 1)) = .inr e → K2 (.inl none) h6) → (∀ (z : List Nat × Nat) A6 F6 h6, mo_W h0 A6 F6 B h6 → (∀ k, k ≠ 1 → A6 k = A k) → tx_u F F6 → tx_Q T dp lm la f0 (.inl z) A6 F6 → z.1.length + 1 ≤ z.2 → x.2 < z.2 → z.2 ≤ T.length → tx_bind (tx_bind r item) (tx_chain T item (tx_times T) (T.length + 1)) = tx_bind (.inl (z.1 ++ [c], z.2)) (tx_chain T item (tx_times T) fu) → K2 (.inl none) h6) → nd_M g mX7_readAtom (d - 1) 0 0 [.ref 101] h5 K2 := by
        intro c hs k0 F5 h5 hw5 y5 Z5 K2 kE kG
        have hgt := tx_h_gt k0
        have hbg := tx_b_ge T x.2
        have hhl := tx_h_le T hb5
        rw [tx_chain_sb hs] at er
        refine hi (.inl (x.1, tx_h T x.2)) f0 A4 F5 B h5 _ (htp.k frA) hw5 (hQ4.y y5 Z5 rfl) ⟨by show 0 + x.1.length ≤ tx_h T x.2; omega, hhl⟩ (fun A6 F6 h6 hw6 fr6A fr6 hQ6 => ?_)
        cases e6 : tx_bind (.inl (x.1, tx_h T x.2)) item with
        | inr e =>
          rw [e6] at hQ6 er
          exact kE e A6 F6 h6 hw6 (tx_k1 frA fr6A) ((frF.trans y5.u).trans fr6) hQ6.1 er
        | inl z =>
          rw [e6] at hQ6 er
          obtain ⟨x7, y7, q1, q2, q3⟩ := tx_bind_inl e6
          cases q1
          have h8 := hG _ hhl
          rw [q2] at h8
          have h8 : tx_h T x.2 + y7.1.length ≤ y7.2 ∧ y7.2 ≤ T.length := h8
          have z1 : z.1.length = x.1.length + y7.1.length := by rw [q3, List.length_append]
          have z2 : z.2 = y7.2 := by rw [q3]
          exact kG z A6 F6 h6 hw6 (tx_k1 frA fr6A) ((frF.trans y5.u).trans fr6) hQ6 (by omega) (by omega) (by omega) er
      have hNEXT : ∀ c (z : List Nat × Nat) A7 F7 h7, mo_W h0 A7 F7 B h7 → (∀ k, k ≠ 1 → A7 k = A k) → tx_u F F7 → tx_Q T dp lm la f0 (.inl (z.1 ++ [c], z.2)) A7 F7 → z.1.length + 1 ≤ z.2 → x.2 < z.2 → z.2 ≤ T.length → tx_bind (tx_bind r item) (tx_chain T item (tx_times T) (T.length + 1)) = tx_bind (.inl (z.1 ++ [c], z.2)) (tx_chain T item (tx_times T) fu) → nd_W g mX7_readTerm d 0 0 K X 4 [some (.ref 101)] [] h7 0 0 := by
        intro c z A7 F7 h7 hw7 a1 a2 a3 a4 a5 a6 a7
        exact ih (z.1 ++ [c], z.2) A7 F7 h7 (by show T.length < z.2 + fu; omega) hw7 a1 a2 a3 (by show (z.1 ++ [c]).length ≤ z.2; rw [List.length_append, List.length_singleton]; exact a4) a6 a7
      clear ih hk
      refine nd_aload_n hC dX7_readTerm_4 rfl rfl ?_
      refine nd_bipush hC (v := nI 42) (by rfl) dX7_readTerm_5 ?_
      refine mo_callV (As := [_]) (d2 := d - 1) hC hw rfl lkX7_175 lyX7_175 (Nat.le_of_ble_eq_true rfl) (by omega) rfl (by exact Nat.le_of_ble_eq_true rfl) (Nat.zero_le _) (Nat.zero_le _) dX7_readTerm_7 rfl ((sr_isSign hg hw hQ4.1 (by omega) ?_))
      rw [show tx_is T 42 (.inl x) = decide (tx_k T x.2 = 42) from rfl]
      first | with_reducible refine nd_if_eqB hC (tgt := 30) dX7_readTerm_10 (by decide) (fun hc => ?_) (fun hc => ?_) | with_reducible refine nd_if_eqN hC (tgt := 30) (by omega) dX7_readTerm_10 (by decide) (fun hc => ?_) (fun hc => ?_) | refine nd_if_eq hC (tgt := 30) dX7_readTerm_10 (by decide) (fun hc => ?_) (fun hc => ?_)
      · have hc := of_decide_eq_false hc
        refine nd_return hC rfl (by omega) (by omega) dX7_readTerm_30 ((hRET (by unfold tx_times; rw [if_neg hc]) F4 h4 hw tx_y.rfl hQ4.1))
      · have hc := of_decide_eq_true hc
        have hZ4 := hQ4.1
        obtain ⟨f7, f8, f9, f10, f11, f12, f16⟩ := hZ4
        refine nd_aload_n hC dX7_readTerm_13 rfl rfl ?_
        refine mo_callV (As := []) (d2 := d - 1) hC hw rfl lkX7_131 lyX7_131 (Nat.le_of_ble_eq_true rfl) (by omega) rfl (by exact Nat.le_of_ble_eq_true rfl) (Nat.zero_le _) (Nat.zero_le _) dX7_readTerm_14 rfl ((sr_on hg (by omega) hw (htp.k frA) (tx_h_le T hb5) f7 f8 f12 f16 (fun F5 h5 hw fr5 hF5 => ?_)))
        refine nd_aload_n hC dX7_readTerm_17 rfl rfl ?_
        refine mo_callV (As := []) (d2 := d - 1) hC hw rfl lkX7_187 lyX7_187 (Nat.le_of_ble_eq_true rfl) (by omega) rfl (by exact Nat.le_of_ble_eq_true rfl) (Nat.zero_le _) (Nat.zero_le _) dX7_readTerm_18 rfl ((hITEM 12 (by unfold tx_times; rw [if_pos hc]) (by omega) F5 h5 hw (tx_y.on fr5) hF5 _ (fun e A6 F6 h6 hw a1 a2 a3 a4 => ?_) (fun z A6 F6 h6 hw a1 a2 a3 a4 a5 a6 a7 => ?_)))
        · refine nd_aload_n hC dX7_readTerm_21 rfl rfl ?_
          refine nd_bipush hC (v := nI 12) (by rfl) dX7_readTerm_22 ?_
          refine mo_callV (As := [_]) (d2 := d - 1) hC hw rfl lkX7_162 lyX7_162 (Nat.le_of_ble_eq_true rfl) (by omega) rfl (by exact Nat.le_of_ble_eq_true rfl) (Nat.zero_le _) (Nat.zero_le _) dX7_readTerm_24 rfl ((sr_layE hg hw a3 ?_))
          refine nd_goto hC (tgt := 4) dX7_readTerm_27 (by decide) ?_
          exact JE e A6 F6 h6 hw a1 a2 a3 a4
        · refine nd_aload_n hC dX7_readTerm_21 rfl rfl ?_
          refine nd_bipush hC (v := nI 12) (by rfl) dX7_readTerm_22 ?_
          refine mo_callV (As := [_]) (d2 := d - 1) hC hw rfl lkX7_162 lyX7_162 (Nat.le_of_ble_eq_true rfl) (by omega) rfl (by exact Nat.le_of_ble_eq_true rfl) (Nat.zero_le _) (Nat.zero_le _) dX7_readTerm_24 rfl ((sr_lay hg hw hlo a3 (by omega) (fun A7 h7 hw b1 b2 => ?_)))
          refine nd_goto hC (tgt := 4) dX7_readTerm_27 (by decide) ?_
          exact hNEXT 12 z A7 F6 h7 hw (tx_k1 a1 b1) a2 b2 a4 a5 a6 a7
  refine nd_aload_n hC dX7_readTerm_0 rfl rfl ?_
  refine mo_callV (As := []) (d2 := d - 1) hC hw rfl lkX7_187 lyX7_187 (Nat.le_of_ble_eq_true rfl) (by omega) rfl (by exact Nat.le_of_ble_eq_true rfl) (Nat.zero_le _) (Nat.zero_le _) dX7_readTerm_1 rfl ((hi r f0 A F B h _ htp hw hQ hb (fun A2 F2 h2 hw frA frF hQ2 => ?_)))
  have hb2 := tx_gd_bind hb hG
  cases e2 : tx_bind r item with
  | inr e =>
    rw [e2] at hQ2
    exact JE e A2 F2 h2 hw frA frF hQ2.1 (by rw [e2]; rfl)
  | inl x =>
    rw [e2] at hQ2 hb2
    have hb2 : 0 + x.1.length ≤ x.2 ∧ x.2 ≤ T.length := hb2
    exact L (T.length + 1) x A2 F2 h2 (by omega) hw frA frF hQ2 (by omega) hb2.2 (by rw [e2])
theorem sr_sum0 (hg : nd_OK g) (hd : 9 ≤ d) (hlo : tx_lo lm la) (hT : T.length ≤ 900) {item : Nat → tx_R} (hi : tx_C g h0 T mX7_readTerm (d - 1) dp lm la item) (hG : tx_G T item) : tx_C g h0 T mX7_readSum d dp lm la (tx_seq T item (tx_pm T)) := by
  intro r f0 A F B h K htp hw hQ hb hk
  rw [tx_seq_b] at hk
  refine nd_enter hg (by decide) rfl (Nat.le_of_ble_eq_true rfl) (fun X hC => ?_)
  have JE : ∀ (lv1 : Option Value) (e : Nat × Nat) A4 F4 h4, mo_W h0 A4 F4 B h4 → (∀ k, k ≠ 1 → A4 k = A k) → tx_u F F4 → tx_Z T dp (.inr e) F4 → tx_bind (tx_bind r item) (tx_chain T item (tx_pm T) (T.length + 1)) = .inr e → nd_W g mX7_readSum d 0 0 K X 4 [some (.ref 101), lv1] [] h4 0 0 := by
    intro lv1 e A4 F4 h4 hw frA frF hZ4 er
    rw [er] at hk
    refine nd_aload_n hC dX7_readSum_4 rfl rfl ?_
    refine nd_bipush hC (v := nI 43) (by rfl) dX7_readSum_5 ?_
    refine mo_callV (As := [_]) (d2 := d - 1) hC hw rfl lkX7_175 lyX7_175 (Nat.le_of_ble_eq_true rfl) (by omega) rfl (by exact Nat.le_of_ble_eq_true rfl) (Nat.zero_le _) (Nat.zero_le _) dX7_readSum_7 rfl ((sr_isSign hg hw hZ4 (by omega) ?_))
    first | with_reducible refine nd_if_neB hC (tgt := 22) dX7_readSum_10 (by decide) (fun hc => ?_) (fun hc => ?_) | with_reducible refine nd_if_neN hC (tgt := 22) (by omega) dX7_readSum_10 (by decide) (fun hc => ?_) (fun hc => ?_) | refine nd_if_ne hC (tgt := 22) dX7_readSum_10 (by decide) (fun hc => ?_) (fun hc => ?_)
    · exact absurd (show false = true from hc) (by decide)
    · refine nd_aload_n hC dX7_readSum_13 rfl rfl ?_
      refine nd_bipush hC (v := nI 45) (by rfl) dX7_readSum_14 ?_
      refine mo_callV (As := [_]) (d2 := d - 1) hC hw rfl lkX7_175 lyX7_175 (Nat.le_of_ble_eq_true rfl) (by omega) rfl (by exact Nat.le_of_ble_eq_true rfl) (Nat.zero_le _) (Nat.zero_le _) dX7_readSum_16 rfl ((sr_isSign hg hw hZ4 (by omega) ?_))
      first | with_reducible refine nd_if_eqB hC (tgt := 55) dX7_readSum_19 (by decide) (fun hc2 => ?_) (fun hc2 => ?_) | with_reducible refine nd_if_eqN hC (tgt := 55) (by omega) dX7_readSum_19 (by decide) (fun hc2 => ?_) (fun hc2 => ?_) | refine nd_if_eq hC (tgt := 55) dX7_readSum_19 (by decide) (fun hc2 => ?_) (fun hc2 => ?_)
      · refine nd_return hC rfl (by omega) (by omega) dX7_readSum_55 ((hk A4 F4 h4 hw frA frF (tx_Q.e hZ4)))
      · exact absurd (show false = true from hc2) (by decide)
  have L : ∀ fu (x : List Nat × Nat) (lv1 : Option Value) A4 F4 h4, T.length < x.2 + fu → mo_W h0 A4 F4 B h4 → (∀ k, k ≠ 1 → A4 k = A k) → tx_u F F4 → tx_Q T dp lm la f0 (.inl x) A4 F4 → x.1.length ≤ x.2 → x.2 ≤ T.length → tx_bind (tx_bind r item) (tx_chain T item (tx_pm T) (T.length + 1)) = tx_bind (.inl x) (tx_chain T item (tx_pm T) fu) → nd_W g mX7_readSum d 0 0 K X 4 [some (.ref 101), lv1] [] h4 0 0 := by
    intro fu
    induction fu with
    | zero => intro x lv1 A4 F4 h4 hf hw frA frF hQ4 hb4 hb5 er; omega
    | succ fu ih =>
      intro x lv1 A4 F4 h4 hf hw frA frF hQ4 hb4 hb5 er
      have hin : tx_in T (.inl x) := hb5
      have hkl := tx_k_lt T x.2
      have hRET : (tx_pm T) x.2 = none → ∀ F5 h5, mo_W h0 A4 F5 B h5 → tx_y F4 F5 → tx_Z T dp (.inl x) F5 → K (.inl none) h5 := by
        intro hn F5 h5 hw5 y5 Z5
        rw [er, tx_chain_nb hn] at hk
        exact hk A4 F5 h5 hw5 frA (frF.trans y5.u) (hQ4.y y5 Z5 rfl)
      have hITEM : ∀ c, (tx_pm T) x.2 = some c → tx_k T x.2 ≠ 0 → ∀ F5 h5, mo_W h0 A4 F5 B h5 → tx_y F4 F5 → tx_Z T dp (.inl (x.1, tx_h T x.2)) F5 → ∀ K2, (∀ (e : Nat × Nat) A6 F6 h6, mo_W h0 A6 F6 B h6 → (∀ k, k ≠ 1 → A6 k = A k) → tx_u F F6 → tx_Z T dp (.inr e) F6 → tx_bind (tx_bind r item) (tx_chain T item (tx_pm T) (T.length + 1)) = .inr e → K2 (.inl none) h6) → (∀ (z : List Nat × Nat) A6 F6 h6, mo_W h0 A6 F6 B h6 → (∀ k, k ≠ 1 → A6 k = A k) → tx_u F F6 → tx_Q T dp lm la f0 (.inl z) A6 F6 → z.1.length + 1 ≤ z.2 → x.2 < z.2 → z.2 ≤ T.length → tx_bind (tx_bind r item) (tx_chain T item (tx_pm T) (T.length + 1)) = tx_bind (.inl (z.1 ++ [c], z.2)) (tx_chain T item (tx_pm T) fu) → K2 (.inl none) h6) → nd_M g mX7_readTerm (d - 1) 0 0 [.ref 101] h5 K2 := by
        intro c hs k0 F5 h5 hw5 y5 Z5 K2 kE kG
        have hgt := tx_h_gt k0
        have hbg := tx_b_ge T x.2
        have hhl := tx_h_le T hb5
        rw [tx_chain_sb hs] at er
        refine hi (.inl (x.1, tx_h T x.2)) f0 A4 F5 B h5 _ (htp.k frA) hw5 (hQ4.y y5 Z5 rfl) ⟨by show 0 + x.1.length ≤ tx_h T x.2; omega, hhl⟩ (fun A6 F6 h6 hw6 fr6A fr6 hQ6 => ?_)
        cases e6 : tx_bind (.inl (x.1, tx_h T x.2)) item with
        | inr e =>
          rw [e6] at hQ6 er
          exact kE e A6 F6 h6 hw6 (tx_k1 frA fr6A) ((frF.trans y5.u).trans fr6) hQ6.1 er
        | inl z =>
          rw [e6] at hQ6 er
          obtain ⟨x7, y7, q1, q2, q3⟩ := tx_bind_inl e6
          cases q1
          have h8 := hG _ hhl
          rw [q2] at h8
          have h8 : tx_h T x.2 + y7.1.length ≤ y7.2 ∧ y7.2 ≤ T.length := h8
          have z1 : z.1.length = x.1.length + y7.1.length := by rw [q3, List.length_append]
          have z2 : z.2 = y7.2 := by rw [q3]
          exact kG z A6 F6 h6 hw6 (tx_k1 frA fr6A) ((frF.trans y5.u).trans fr6) hQ6 (by omega) (by omega) (by omega) er
      have hNEXT : ∀ c (z : List Nat × Nat) (lv1 : Option Value) A7 F7 h7, mo_W h0 A7 F7 B h7 → (∀ k, k ≠ 1 → A7 k = A k) → tx_u F F7 → tx_Q T dp lm la f0 (.inl (z.1 ++ [c], z.2)) A7 F7 → z.1.length + 1 ≤ z.2 → x.2 < z.2 → z.2 ≤ T.length → tx_bind (tx_bind r item) (tx_chain T item (tx_pm T) (T.length + 1)) = tx_bind (.inl (z.1 ++ [c], z.2)) (tx_chain T item (tx_pm T) fu) → nd_W g mX7_readSum d 0 0 K X 4 [some (.ref 101), lv1] [] h7 0 0 := by
        intro c z lv1 A7 F7 h7 hw7 a1 a2 a3 a4 a5 a6 a7
        exact ih (z.1 ++ [c], z.2) lv1 A7 F7 h7 (by show T.length < z.2 + fu; omega) hw7 a1 a2 a3 (by show (z.1 ++ [c]).length ≤ z.2; rw [List.length_append, List.length_singleton]; exact a4) a6 a7
      clear ih hk
      have hZ4 := hQ4.1
      obtain ⟨f7, f8, f9, f10, f11, f12, f16⟩ := hZ4
      have J22 : ∀ lv1 c, tx_pm T x.2 = some c → tx_k T x.2 ≠ 0 → c = (if tx_k T x.2 = 43 then 10 else 11) → nd_W g mX7_readSum d 0 0 K X 22 [some (.ref 101), lv1] [] h4 0 0 := by
        intro lv1 c hpm hk0 ec
        refine nd_aload_n hC dX7_readSum_22 rfl rfl ?_
        refine mo_get_token hC hw rfl dX7_readSum_23 ?_
        refine nd_v_eq (congrArg Value.int (f10)) ?_
        refine nd_istore_n hC dX7_readSum_26 (Nat.le_of_ble_eq_true rfl) ?_
        refine nd_aload_n hC dX7_readSum_27 rfl rfl ?_
        refine mo_callV (As := []) (d2 := d - 1) hC hw rfl lkX7_131 lyX7_131 (Nat.le_of_ble_eq_true rfl) (by omega) rfl (by exact Nat.le_of_ble_eq_true rfl) (Nat.zero_le _) (Nat.zero_le _) dX7_readSum_28 rfl ((sr_on hg (by omega) hw (htp.k frA) (tx_h_le T hb5) f7 f8 f12 f16 (fun F5 h5 hw fr5 hF5 => ?_)))
        refine nd_aload_n hC dX7_readSum_31 rfl rfl ?_
        refine mo_callV (As := []) (d2 := d - 1) hC hw rfl lkX7_184 lyX7_184 (Nat.le_of_ble_eq_true rfl) (by omega) rfl (by exact Nat.le_of_ble_eq_true rfl) (Nat.zero_le _) (Nat.zero_le _) dX7_readSum_32 rfl ((hITEM c hpm hk0 F5 h5 hw (tx_y.on fr5) hF5 _ (fun e A6 F6 h6 hw a1 a2 a3 a4 => ?_) (fun z A6 F6 h6 hw a1 a2 a3 a4 a5 a6 a7 => ?_)))
        · have J49 : ∀ c2, nd_W g mX7_readSum d 0 0 K X 49 [some (.ref 101), some (.int (nI (tx_k T x.2)))] [.int c2, .ref 101] h6 0 0 := by
            intro c2
            refine mo_callV (As := [_]) (d2 := d - 1) hC hw rfl lkX7_162 lyX7_162 (Nat.le_of_ble_eq_true rfl) (by omega) rfl (by exact Nat.le_of_ble_eq_true rfl) (Nat.zero_le _) (Nat.zero_le _) dX7_readSum_49 rfl ((sr_layE hg hw a3 ?_))
            refine nd_goto hC (tgt := 4) dX7_readSum_52 (by decide) ?_
            exact JE _ e A6 F6 h6 hw a1 a2 a3 a4
          refine nd_aload_n hC dX7_readSum_35 rfl rfl ?_
          refine nd_iload_n hC dX7_readSum_36 rfl ?_
          refine nd_bipush hC (v := nI 43) (by rfl) dX7_readSum_37 ?_
          first | with_reducible refine nd_icmp_neN hC (tgt := 47) (by omega) (by omega) dX7_readSum_39 (by decide) (fun hq => ?_) (fun hq => ?_) | refine nd_icmp_ne hC (tgt := 47) dX7_readSum_39 (by decide) (fun hq => ?_) (fun hq => ?_)
          · refine nd_bipush hC (v := nI 11) (by rfl) dX7_readSum_47 ?_
            exact J49 _
          · refine nd_bipush hC (v := nI 10) (by rfl) dX7_readSum_42 ?_
            refine nd_goto hC (tgt := 49) dX7_readSum_44 (by decide) ?_
            exact J49 _
        · have J49 : nd_W g mX7_readSum d 0 0 K X 49 [some (.ref 101), some (.int (nI (tx_k T x.2)))] [.int (nI c), .ref 101] h6 0 0 := by
            refine mo_callV (As := [_]) (d2 := d - 1) hC hw rfl lkX7_162 lyX7_162 (Nat.le_of_ble_eq_true rfl) (by omega) rfl (by exact Nat.le_of_ble_eq_true rfl) (Nat.zero_le _) (Nat.zero_le _) dX7_readSum_49 rfl ((sr_lay hg hw hlo a3 (by omega) (fun A7 h7 hw b1 b2 => ?_)))
            refine nd_goto hC (tgt := 4) dX7_readSum_52 (by decide) ?_
            exact hNEXT c z _ A7 F6 h7 hw (tx_k1 a1 b1) a2 b2 a4 a5 a6 a7
          refine nd_aload_n hC dX7_readSum_35 rfl rfl ?_
          refine nd_iload_n hC dX7_readSum_36 rfl ?_
          refine nd_bipush hC (v := nI 43) (by rfl) dX7_readSum_37 ?_
          first | with_reducible refine nd_icmp_neN hC (tgt := 47) (by omega) (by omega) dX7_readSum_39 (by decide) (fun hq => ?_) (fun hq => ?_) | refine nd_icmp_ne hC (tgt := 47) dX7_readSum_39 (by decide) (fun hq => ?_) (fun hq => ?_)
          · rw [if_neg hq] at ec
            subst ec
            refine nd_bipush hC (v := nI 11) (by rfl) dX7_readSum_47 ?_
            exact J49
          · rw [if_pos hq] at ec
            subst ec
            refine nd_bipush hC (v := nI 10) (by rfl) dX7_readSum_42 ?_
            refine nd_goto hC (tgt := 49) dX7_readSum_44 (by decide) ?_
            exact J49
      refine nd_aload_n hC dX7_readSum_4 rfl rfl ?_
      refine nd_bipush hC (v := nI 43) (by rfl) dX7_readSum_5 ?_
      refine mo_callV (As := [_]) (d2 := d - 1) hC hw rfl lkX7_175 lyX7_175 (Nat.le_of_ble_eq_true rfl) (by omega) rfl (by exact Nat.le_of_ble_eq_true rfl) (Nat.zero_le _) (Nat.zero_le _) dX7_readSum_7 rfl ((sr_isSign hg hw hQ4.1 (by omega) ?_))
      rw [show tx_is T 43 (.inl x) = decide (tx_k T x.2 = 43) from rfl]
      first | with_reducible refine nd_if_neB hC (tgt := 22) dX7_readSum_10 (by decide) (fun hc => ?_) (fun hc => ?_) | with_reducible refine nd_if_neN hC (tgt := 22) (by omega) dX7_readSum_10 (by decide) (fun hc => ?_) (fun hc => ?_) | refine nd_if_ne hC (tgt := 22) dX7_readSum_10 (by decide) (fun hc => ?_) (fun hc => ?_)
      · have hc := of_decide_eq_true hc
        exact J22 _ 10 (by unfold tx_pm; rw [if_pos hc]) (by omega) (by rw [if_pos hc])
      · have hc := of_decide_eq_false hc
        refine nd_aload_n hC dX7_readSum_13 rfl rfl ?_
        refine nd_bipush hC (v := nI 45) (by rfl) dX7_readSum_14 ?_
        refine mo_callV (As := [_]) (d2 := d - 1) hC hw rfl lkX7_175 lyX7_175 (Nat.le_of_ble_eq_true rfl) (by omega) rfl (by exact Nat.le_of_ble_eq_true rfl) (Nat.zero_le _) (Nat.zero_le _) dX7_readSum_16 rfl ((sr_isSign hg hw hQ4.1 (by omega) ?_))
        rw [show tx_is T 45 (.inl x) = decide (tx_k T x.2 = 45) from rfl]
        first | with_reducible refine nd_if_eqB hC (tgt := 55) dX7_readSum_19 (by decide) (fun hc2 => ?_) (fun hc2 => ?_) | with_reducible refine nd_if_eqN hC (tgt := 55) (by omega) dX7_readSum_19 (by decide) (fun hc2 => ?_) (fun hc2 => ?_) | refine nd_if_eq hC (tgt := 55) dX7_readSum_19 (by decide) (fun hc2 => ?_) (fun hc2 => ?_)
        · have hc2 := of_decide_eq_false hc2
          refine nd_return hC rfl (by omega) (by omega) dX7_readSum_55 ((hRET (by unfold tx_pm; rw [if_neg hc, if_neg hc2]) F4 h4 hw tx_y.rfl hQ4.1))
        · have hc2 := of_decide_eq_true hc2
          exact J22 _ 11 (by unfold tx_pm; rw [if_neg hc, if_pos hc2]) (by omega) (by rw [if_neg hc])
  refine nd_aload_n hC dX7_readSum_0 rfl rfl ?_
  refine mo_callV (As := []) (d2 := d - 1) hC hw rfl lkX7_184 lyX7_184 (Nat.le_of_ble_eq_true rfl) (by omega) rfl (by exact Nat.le_of_ble_eq_true rfl) (Nat.zero_le _) (Nat.zero_le _) dX7_readSum_1 rfl ((hi r f0 A F B h _ htp hw hQ hb (fun A2 F2 h2 hw frA frF hQ2 => ?_)))
  have hb2 := tx_gd_bind hb hG
  cases e2 : tx_bind r item with
  | inr e =>
    rw [e2] at hQ2
    exact JE _ e A2 F2 h2 hw frA frF hQ2.1 (by rw [e2]; rfl)
  | inl x =>
    rw [e2] at hQ2 hb2
    have hb2 : 0 + x.1.length ≤ x.2 ∧ x.2 ≤ T.length := hb2
    exact L (T.length + 1) x _ A2 F2 h2 (by omega) hw frA frF hQ2 (by omega) hb2.2 (by rw [e2])
theorem sr_both (hg : nd_OK g) (hd : 9 ≤ d) (hlo : tx_lo lm la) (hT : T.length ≤ 900) {item : Nat → tx_R} (hi : tx_C g h0 T mX7_readUnit (d - 1) dp lm la item) (hG : tx_G T item) : tx_C g h0 T mX7_readBoth d dp lm la (tx_seq T item (tx_aw T tx_and 16)) := by
  intro r f0 A F B h K htp hw hQ hb hk
  rw [tx_seq_b] at hk
  refine nd_enter hg (by decide) rfl (Nat.le_of_ble_eq_true rfl) (fun X hC => ?_)
  have JE : ∀ (e : Nat × Nat) A4 F4 h4, mo_W h0 A4 F4 B h4 → (∀ k, k ≠ 1 → A4 k = A k) → tx_u F F4 → tx_Z T dp (.inr e) F4 → tx_bind (tx_bind r item) (tx_chain T item (tx_aw T tx_and 16) (T.length + 1)) = .inr e → nd_W g mX7_readBoth d 0 0 K X 4 [some (.ref 101)] [] h4 0 0 := by
    intro e A4 F4 h4 hw frA frF hZ4 er
    rw [er] at hk
    refine nd_aload_n hC dX7_readBoth_4 rfl rfl ?_
    refine nd_ldcS hC (i := 30) (r := ("NapkinDeedsModel", 168, "and", [97, 110, 100])) rfl rfl dX7_readBoth_5 ?_
    refine mo_callV (As := [_]) (d2 := d - 1) hC hw rfl lkX7_142 lyX7_142 (Nat.le_of_ble_eq_true rfl) (by omega) rfl (by exact Nat.le_of_ble_eq_true rfl) (Nat.zero_le _) (Nat.zero_le _) dX7_readBoth_7 rfl ((sr_took (rr := ("NapkinDeedsModel", 168, "and", [97, 110, 100])) (r := .inr e) hg (by omega) hw (htp.k frA) trivial hZ4 rfl (fun F5 h5 hw y5 Z5 => ?_)))
    first | with_reducible refine nd_if_eqB hC (tgt := 26) dX7_readBoth_10 (by decide) (fun hc => ?_) (fun hc => ?_) | with_reducible refine nd_if_eqN hC (tgt := 26) (by omega) dX7_readBoth_10 (by decide) (fun hc => ?_) (fun hc => ?_) | refine nd_if_eq hC (tgt := 26) dX7_readBoth_10 (by decide) (fun hc => ?_) (fun hc => ?_)
    · refine nd_return hC rfl (by omega) (by omega) dX7_readBoth_26 ((hk A4 F5 h5 hw frA (frF.trans y5.u) (tx_Q.e Z5)))
    · exact absurd (show false = true from hc) (by decide)
  have L : ∀ fu (x : List Nat × Nat) A4 F4 h4, T.length < x.2 + fu → mo_W h0 A4 F4 B h4 → (∀ k, k ≠ 1 → A4 k = A k) → tx_u F F4 → tx_Q T dp lm la f0 (.inl x) A4 F4 → x.1.length ≤ x.2 → x.2 ≤ T.length → tx_bind (tx_bind r item) (tx_chain T item (tx_aw T tx_and 16) (T.length + 1)) = tx_bind (.inl x) (tx_chain T item (tx_aw T tx_and 16) fu) → nd_W g mX7_readBoth d 0 0 K X 4 [some (.ref 101)] [] h4 0 0 := by
    intro fu
    induction fu with
    | zero => intro x A4 F4 h4 hf hw frA frF hQ4 hb4 hb5 er; omega
    | succ fu ih =>
      intro x A4 F4 h4 hf hw frA frF hQ4 hb4 hb5 er
      have hin : tx_in T (.inl x) := hb5
      have hkl := tx_k_lt T x.2
      have hRET : (tx_aw T tx_and 16) x.2 = none → ∀ F5 h5, mo_W h0 A4 F5 B h5 → tx_y F4 F5 → tx_Z T dp (.inl x) F5 → K (.inl none) h5 := by
        intro hn F5 h5 hw5 y5 Z5
        rw [er, tx_chain_nb hn] at hk
        exact hk A4 F5 h5 hw5 frA (frF.trans y5.u) (hQ4.y y5 Z5 rfl)
      have hITEM : ∀ c, (tx_aw T tx_and 16) x.2 = some c → tx_k T x.2 ≠ 0 → ∀ F5 h5, mo_W h0 A4 F5 B h5 → tx_y F4 F5 → tx_Z T dp (.inl (x.1, tx_h T x.2)) F5 → ∀ K2, (∀ (e : Nat × Nat) A6 F6 h6, mo_W h0 A6 F6 B h6 → (∀ k, k ≠ 1 → A6 k = A k) → tx_u F F6 → tx_Z T dp (.inr e) F6 → tx_bind (tx_bind r item) (tx_chain T item (tx_aw T tx_and 16) (T.length + 1)) = .inr e → K2 (.inl none) h6) → (∀ (z : List Nat × Nat) A6 F6 h6, mo_W h0 A6 F6 B h6 → (∀ k, k ≠ 1 → A6 k = A k) → tx_u F F6 → tx_Q T dp lm la f0 (.inl z) A6 F6 → z.1.length + 1 ≤ z.2 → x.2 < z.2 → z.2 ≤ T.length → tx_bind (tx_bind r item) (tx_chain T item (tx_aw T tx_and 16) (T.length + 1)) = tx_bind (.inl (z.1 ++ [c], z.2)) (tx_chain T item (tx_aw T tx_and 16) fu) → K2 (.inl none) h6) → nd_M g mX7_readUnit (d - 1) 0 0 [.ref 101] h5 K2 := by
        intro c hs k0 F5 h5 hw5 y5 Z5 K2 kE kG
        have hgt := tx_h_gt k0
        have hbg := tx_b_ge T x.2
        have hhl := tx_h_le T hb5
        rw [tx_chain_sb hs] at er
        refine hi (.inl (x.1, tx_h T x.2)) f0 A4 F5 B h5 _ (htp.k frA) hw5 (hQ4.y y5 Z5 rfl) ⟨by show 0 + x.1.length ≤ tx_h T x.2; omega, hhl⟩ (fun A6 F6 h6 hw6 fr6A fr6 hQ6 => ?_)
        cases e6 : tx_bind (.inl (x.1, tx_h T x.2)) item with
        | inr e =>
          rw [e6] at hQ6 er
          exact kE e A6 F6 h6 hw6 (tx_k1 frA fr6A) ((frF.trans y5.u).trans fr6) hQ6.1 er
        | inl z =>
          rw [e6] at hQ6 er
          obtain ⟨x7, y7, q1, q2, q3⟩ := tx_bind_inl e6
          cases q1
          have h8 := hG _ hhl
          rw [q2] at h8
          have h8 : tx_h T x.2 + y7.1.length ≤ y7.2 ∧ y7.2 ≤ T.length := h8
          have z1 : z.1.length = x.1.length + y7.1.length := by rw [q3, List.length_append]
          have z2 : z.2 = y7.2 := by rw [q3]
          exact kG z A6 F6 h6 hw6 (tx_k1 frA fr6A) ((frF.trans y5.u).trans fr6) hQ6 (by omega) (by omega) (by omega) er
      have hNEXT : ∀ c (z : List Nat × Nat) A7 F7 h7, mo_W h0 A7 F7 B h7 → (∀ k, k ≠ 1 → A7 k = A k) → tx_u F F7 → tx_Q T dp lm la f0 (.inl (z.1 ++ [c], z.2)) A7 F7 → z.1.length + 1 ≤ z.2 → x.2 < z.2 → z.2 ≤ T.length → tx_bind (tx_bind r item) (tx_chain T item (tx_aw T tx_and 16) (T.length + 1)) = tx_bind (.inl (z.1 ++ [c], z.2)) (tx_chain T item (tx_aw T tx_and 16) fu) → nd_W g mX7_readBoth d 0 0 K X 4 [some (.ref 101)] [] h7 0 0 := by
        intro c z A7 F7 h7 hw7 a1 a2 a3 a4 a5 a6 a7
        exact ih (z.1 ++ [c], z.2) A7 F7 h7 (by show T.length < z.2 + fu; omega) hw7 a1 a2 a3 (by show (z.1 ++ [c]).length ≤ z.2; rw [List.length_append, List.length_singleton]; exact a4) a6 a7
      clear ih hk
      refine nd_aload_n hC dX7_readBoth_4 rfl rfl ?_
      refine nd_ldcS hC (i := 30) (r := ("NapkinDeedsModel", 168, "and", [97, 110, 100])) rfl rfl dX7_readBoth_5 ?_
      refine mo_callV (As := [_]) (d2 := d - 1) hC hw rfl lkX7_142 lyX7_142 (Nat.le_of_ble_eq_true rfl) (by omega) rfl (by exact Nat.le_of_ble_eq_true rfl) (Nat.zero_le _) (Nat.zero_le _) dX7_readBoth_7 rfl ((sr_took (rr := ("NapkinDeedsModel", 168, "and", [97, 110, 100])) (r := .inl x) hg (by omega) hw (htp.k frA) hin hQ4.1 rfl (fun F5 h5 hw y5 Z5 => ?_)))
      rw [show tx_isw T [97, 110, 100] (.inl x) = tx_w T x.2 tx_and from rfl]
      have Z5 : tx_Z T dp (if tx_w T x.2 tx_and = true then tx_bind (.inl x) (tx_on T) else .inl x) F5 := Z5
      first | with_reducible refine nd_if_eqB hC (tgt := 26) dX7_readBoth_10 (by decide) (fun hc => ?_) (fun hc => ?_) | with_reducible refine nd_if_eqN hC (tgt := 26) (by omega) dX7_readBoth_10 (by decide) (fun hc => ?_) (fun hc => ?_) | refine nd_if_eq hC (tgt := 26) dX7_readBoth_10 (by decide) (fun hc => ?_) (fun hc => ?_)
      · rw [hc, if_neg (by decide)] at Z5
        refine nd_return hC rfl (by omega) (by omega) dX7_readBoth_26 ((hRET (by unfold tx_aw; rw [hc]; rfl) F5 h5 hw y5 Z5))
      · rw [hc, if_pos rfl, tx_bind_on] at Z5
        have hk1 := tx_w_k hc
        refine nd_aload_n hC dX7_readBoth_13 rfl rfl ?_
        refine mo_callV (As := []) (d2 := d - 1) hC hw rfl lkX7_165 lyX7_165 (Nat.le_of_ble_eq_true rfl) (by omega) rfl (by exact Nat.le_of_ble_eq_true rfl) (Nat.zero_le _) (Nat.zero_le _) dX7_readBoth_14 rfl ((hITEM 16 (by unfold tx_aw; rw [hc]; rfl) (by omega) F5 h5 hw y5 Z5 _ (fun e A6 F6 h6 hw a1 a2 a3 a4 => ?_) (fun z A6 F6 h6 hw a1 a2 a3 a4 a5 a6 a7 => ?_)))
        · refine nd_aload_n hC dX7_readBoth_17 rfl rfl ?_
          refine nd_bipush hC (v := nI 16) (by rfl) dX7_readBoth_18 ?_
          refine mo_callV (As := [_]) (d2 := d - 1) hC hw rfl lkX7_162 lyX7_162 (Nat.le_of_ble_eq_true rfl) (by omega) rfl (by exact Nat.le_of_ble_eq_true rfl) (Nat.zero_le _) (Nat.zero_le _) dX7_readBoth_20 rfl ((sr_layE hg hw a3 ?_))
          refine nd_goto hC (tgt := 4) dX7_readBoth_23 (by decide) ?_
          exact JE e A6 F6 h6 hw a1 a2 a3 a4
        · refine nd_aload_n hC dX7_readBoth_17 rfl rfl ?_
          refine nd_bipush hC (v := nI 16) (by rfl) dX7_readBoth_18 ?_
          refine mo_callV (As := [_]) (d2 := d - 1) hC hw rfl lkX7_162 lyX7_162 (Nat.le_of_ble_eq_true rfl) (by omega) rfl (by exact Nat.le_of_ble_eq_true rfl) (Nat.zero_le _) (Nat.zero_le _) dX7_readBoth_20 rfl ((sr_lay hg hw hlo a3 (by omega) (fun A7 h7 hw b1 b2 => ?_)))
          refine nd_goto hC (tgt := 4) dX7_readBoth_23 (by decide) ?_
          exact hNEXT 16 z A7 F6 h7 hw (tx_k1 a1 b1) a2 b2 a4 a5 a6 a7
  refine nd_aload_n hC dX7_readBoth_0 rfl rfl ?_
  refine mo_callV (As := []) (d2 := d - 1) hC hw rfl lkX7_165 lyX7_165 (Nat.le_of_ble_eq_true rfl) (by omega) rfl (by exact Nat.le_of_ble_eq_true rfl) (Nat.zero_le _) (Nat.zero_le _) dX7_readBoth_1 rfl ((hi r f0 A F B h _ htp hw hQ hb (fun A2 F2 h2 hw frA frF hQ2 => ?_)))
  have hb2 := tx_gd_bind hb hG
  cases e2 : tx_bind r item with
  | inr e =>
    rw [e2] at hQ2
    exact JE e A2 F2 h2 hw frA frF hQ2.1 (by rw [e2]; rfl)
  | inl x =>
    rw [e2] at hQ2 hb2
    have hb2 : 0 + x.1.length ≤ x.2 ∧ x.2 ≤ T.length := hb2
    exact L (T.length + 1) x A2 F2 h2 (by omega) hw frA frF hQ2 (by omega) hb2.2 (by rw [e2])
theorem sr_truth0 (hg : nd_OK g) (hd : 9 ≤ d) (hlo : tx_lo lm la) (hT : T.length ≤ 900) {item : Nat → tx_R} (hi : tx_C g h0 T mX7_readBoth (d - 1) dp lm la item) (hG : tx_G T item) : tx_C g h0 T mX7_readTruth d dp lm la (tx_seq T item (tx_aw T tx_or 17)) := by
  intro r f0 A F B h K htp hw hQ hb hk
  rw [tx_seq_b] at hk
  refine nd_enter hg (by decide) rfl (Nat.le_of_ble_eq_true rfl) (fun X hC => ?_)
  have JE : ∀ (e : Nat × Nat) A4 F4 h4, mo_W h0 A4 F4 B h4 → (∀ k, k ≠ 1 → A4 k = A k) → tx_u F F4 → tx_Z T dp (.inr e) F4 → tx_bind (tx_bind r item) (tx_chain T item (tx_aw T tx_or 17) (T.length + 1)) = .inr e → nd_W g mX7_readTruth d 0 0 K X 4 [some (.ref 101)] [] h4 0 0 := by
    intro e A4 F4 h4 hw frA frF hZ4 er
    rw [er] at hk
    refine nd_aload_n hC dX7_readTruth_4 rfl rfl ?_
    refine nd_ldcS hC (i := 31) (r := ("NapkinDeedsModel", 160, "or", [111, 114])) rfl rfl dX7_readTruth_5 ?_
    refine mo_callV (As := [_]) (d2 := d - 1) hC hw rfl lkX7_142 lyX7_142 (Nat.le_of_ble_eq_true rfl) (by omega) rfl (by exact Nat.le_of_ble_eq_true rfl) (Nat.zero_le _) (Nat.zero_le _) dX7_readTruth_7 rfl ((sr_took (rr := ("NapkinDeedsModel", 160, "or", [111, 114])) (r := .inr e) hg (by omega) hw (htp.k frA) trivial hZ4 rfl (fun F5 h5 hw y5 Z5 => ?_)))
    first | with_reducible refine nd_if_eqB hC (tgt := 26) dX7_readTruth_10 (by decide) (fun hc => ?_) (fun hc => ?_) | with_reducible refine nd_if_eqN hC (tgt := 26) (by omega) dX7_readTruth_10 (by decide) (fun hc => ?_) (fun hc => ?_) | refine nd_if_eq hC (tgt := 26) dX7_readTruth_10 (by decide) (fun hc => ?_) (fun hc => ?_)
    · refine nd_return hC rfl (by omega) (by omega) dX7_readTruth_26 ((hk A4 F5 h5 hw frA (frF.trans y5.u) (tx_Q.e Z5)))
    · exact absurd (show false = true from hc) (by decide)
  have L : ∀ fu (x : List Nat × Nat) A4 F4 h4, T.length < x.2 + fu → mo_W h0 A4 F4 B h4 → (∀ k, k ≠ 1 → A4 k = A k) → tx_u F F4 → tx_Q T dp lm la f0 (.inl x) A4 F4 → x.1.length ≤ x.2 → x.2 ≤ T.length → tx_bind (tx_bind r item) (tx_chain T item (tx_aw T tx_or 17) (T.length + 1)) = tx_bind (.inl x) (tx_chain T item (tx_aw T tx_or 17) fu) → nd_W g mX7_readTruth d 0 0 K X 4 [some (.ref 101)] [] h4 0 0 := by
    intro fu
    induction fu with
    | zero => intro x A4 F4 h4 hf hw frA frF hQ4 hb4 hb5 er; omega
    | succ fu ih =>
      intro x A4 F4 h4 hf hw frA frF hQ4 hb4 hb5 er
      have hin : tx_in T (.inl x) := hb5
      have hkl := tx_k_lt T x.2
      have hRET : (tx_aw T tx_or 17) x.2 = none → ∀ F5 h5, mo_W h0 A4 F5 B h5 → tx_y F4 F5 → tx_Z T dp (.inl x) F5 → K (.inl none) h5 := by
        intro hn F5 h5 hw5 y5 Z5
        rw [er, tx_chain_nb hn] at hk
        exact hk A4 F5 h5 hw5 frA (frF.trans y5.u) (hQ4.y y5 Z5 rfl)
      have hITEM : ∀ c, (tx_aw T tx_or 17) x.2 = some c → tx_k T x.2 ≠ 0 → ∀ F5 h5, mo_W h0 A4 F5 B h5 → tx_y F4 F5 → tx_Z T dp (.inl (x.1, tx_h T x.2)) F5 → ∀ K2, (∀ (e : Nat × Nat) A6 F6 h6, mo_W h0 A6 F6 B h6 → (∀ k, k ≠ 1 → A6 k = A k) → tx_u F F6 → tx_Z T dp (.inr e) F6 → tx_bind (tx_bind r item) (tx_chain T item (tx_aw T tx_or 17) (T.length + 1)) = .inr e → K2 (.inl none) h6) → (∀ (z : List Nat × Nat) A6 F6 h6, mo_W h0 A6 F6 B h6 → (∀ k, k ≠ 1 → A6 k = A k) → tx_u F F6 → tx_Q T dp lm la f0 (.inl z) A6 F6 → z.1.length + 1 ≤ z.2 → x.2 < z.2 → z.2 ≤ T.length → tx_bind (tx_bind r item) (tx_chain T item (tx_aw T tx_or 17) (T.length + 1)) = tx_bind (.inl (z.1 ++ [c], z.2)) (tx_chain T item (tx_aw T tx_or 17) fu) → K2 (.inl none) h6) → nd_M g mX7_readBoth (d - 1) 0 0 [.ref 101] h5 K2 := by
        intro c hs k0 F5 h5 hw5 y5 Z5 K2 kE kG
        have hgt := tx_h_gt k0
        have hbg := tx_b_ge T x.2
        have hhl := tx_h_le T hb5
        rw [tx_chain_sb hs] at er
        refine hi (.inl (x.1, tx_h T x.2)) f0 A4 F5 B h5 _ (htp.k frA) hw5 (hQ4.y y5 Z5 rfl) ⟨by show 0 + x.1.length ≤ tx_h T x.2; omega, hhl⟩ (fun A6 F6 h6 hw6 fr6A fr6 hQ6 => ?_)
        cases e6 : tx_bind (.inl (x.1, tx_h T x.2)) item with
        | inr e =>
          rw [e6] at hQ6 er
          exact kE e A6 F6 h6 hw6 (tx_k1 frA fr6A) ((frF.trans y5.u).trans fr6) hQ6.1 er
        | inl z =>
          rw [e6] at hQ6 er
          obtain ⟨x7, y7, q1, q2, q3⟩ := tx_bind_inl e6
          cases q1
          have h8 := hG _ hhl
          rw [q2] at h8
          have h8 : tx_h T x.2 + y7.1.length ≤ y7.2 ∧ y7.2 ≤ T.length := h8
          have z1 : z.1.length = x.1.length + y7.1.length := by rw [q3, List.length_append]
          have z2 : z.2 = y7.2 := by rw [q3]
          exact kG z A6 F6 h6 hw6 (tx_k1 frA fr6A) ((frF.trans y5.u).trans fr6) hQ6 (by omega) (by omega) (by omega) er
      have hNEXT : ∀ c (z : List Nat × Nat) A7 F7 h7, mo_W h0 A7 F7 B h7 → (∀ k, k ≠ 1 → A7 k = A k) → tx_u F F7 → tx_Q T dp lm la f0 (.inl (z.1 ++ [c], z.2)) A7 F7 → z.1.length + 1 ≤ z.2 → x.2 < z.2 → z.2 ≤ T.length → tx_bind (tx_bind r item) (tx_chain T item (tx_aw T tx_or 17) (T.length + 1)) = tx_bind (.inl (z.1 ++ [c], z.2)) (tx_chain T item (tx_aw T tx_or 17) fu) → nd_W g mX7_readTruth d 0 0 K X 4 [some (.ref 101)] [] h7 0 0 := by
        intro c z A7 F7 h7 hw7 a1 a2 a3 a4 a5 a6 a7
        exact ih (z.1 ++ [c], z.2) A7 F7 h7 (by show T.length < z.2 + fu; omega) hw7 a1 a2 a3 (by show (z.1 ++ [c]).length ≤ z.2; rw [List.length_append, List.length_singleton]; exact a4) a6 a7
      clear ih hk
      refine nd_aload_n hC dX7_readTruth_4 rfl rfl ?_
      refine nd_ldcS hC (i := 31) (r := ("NapkinDeedsModel", 160, "or", [111, 114])) rfl rfl dX7_readTruth_5 ?_
      refine mo_callV (As := [_]) (d2 := d - 1) hC hw rfl lkX7_142 lyX7_142 (Nat.le_of_ble_eq_true rfl) (by omega) rfl (by exact Nat.le_of_ble_eq_true rfl) (Nat.zero_le _) (Nat.zero_le _) dX7_readTruth_7 rfl ((sr_took (rr := ("NapkinDeedsModel", 160, "or", [111, 114])) (r := .inl x) hg (by omega) hw (htp.k frA) hin hQ4.1 rfl (fun F5 h5 hw y5 Z5 => ?_)))
      rw [show tx_isw T [111, 114] (.inl x) = tx_w T x.2 tx_or from rfl]
      have Z5 : tx_Z T dp (if tx_w T x.2 tx_or = true then tx_bind (.inl x) (tx_on T) else .inl x) F5 := Z5
      first | with_reducible refine nd_if_eqB hC (tgt := 26) dX7_readTruth_10 (by decide) (fun hc => ?_) (fun hc => ?_) | with_reducible refine nd_if_eqN hC (tgt := 26) (by omega) dX7_readTruth_10 (by decide) (fun hc => ?_) (fun hc => ?_) | refine nd_if_eq hC (tgt := 26) dX7_readTruth_10 (by decide) (fun hc => ?_) (fun hc => ?_)
      · rw [hc, if_neg (by decide)] at Z5
        refine nd_return hC rfl (by omega) (by omega) dX7_readTruth_26 ((hRET (by unfold tx_aw; rw [hc]; rfl) F5 h5 hw y5 Z5))
      · rw [hc, if_pos rfl, tx_bind_on] at Z5
        have hk1 := tx_w_k hc
        refine nd_aload_n hC dX7_readTruth_13 rfl rfl ?_
        refine mo_callV (As := []) (d2 := d - 1) hC hw rfl lkX7_157 lyX7_157 (Nat.le_of_ble_eq_true rfl) (by omega) rfl (by exact Nat.le_of_ble_eq_true rfl) (Nat.zero_le _) (Nat.zero_le _) dX7_readTruth_14 rfl ((hITEM 17 (by unfold tx_aw; rw [hc]; rfl) (by omega) F5 h5 hw y5 Z5 _ (fun e A6 F6 h6 hw a1 a2 a3 a4 => ?_) (fun z A6 F6 h6 hw a1 a2 a3 a4 a5 a6 a7 => ?_)))
        · refine nd_aload_n hC dX7_readTruth_17 rfl rfl ?_
          refine nd_bipush hC (v := nI 17) (by rfl) dX7_readTruth_18 ?_
          refine mo_callV (As := [_]) (d2 := d - 1) hC hw rfl lkX7_162 lyX7_162 (Nat.le_of_ble_eq_true rfl) (by omega) rfl (by exact Nat.le_of_ble_eq_true rfl) (Nat.zero_le _) (Nat.zero_le _) dX7_readTruth_20 rfl ((sr_layE hg hw a3 ?_))
          refine nd_goto hC (tgt := 4) dX7_readTruth_23 (by decide) ?_
          exact JE e A6 F6 h6 hw a1 a2 a3 a4
        · refine nd_aload_n hC dX7_readTruth_17 rfl rfl ?_
          refine nd_bipush hC (v := nI 17) (by rfl) dX7_readTruth_18 ?_
          refine mo_callV (As := [_]) (d2 := d - 1) hC hw rfl lkX7_162 lyX7_162 (Nat.le_of_ble_eq_true rfl) (by omega) rfl (by exact Nat.le_of_ble_eq_true rfl) (Nat.zero_le _) (Nat.zero_le _) dX7_readTruth_20 rfl ((sr_lay hg hw hlo a3 (by omega) (fun A7 h7 hw b1 b2 => ?_)))
          refine nd_goto hC (tgt := 4) dX7_readTruth_23 (by decide) ?_
          exact hNEXT 17 z A7 F6 h7 hw (tx_k1 a1 b1) a2 b2 a4 a5 a6 a7
  refine nd_aload_n hC dX7_readTruth_0 rfl rfl ?_
  refine mo_callV (As := []) (d2 := d - 1) hC hw rfl lkX7_157 lyX7_157 (Nat.le_of_ble_eq_true rfl) (by omega) rfl (by exact Nat.le_of_ble_eq_true rfl) (Nat.zero_le _) (Nat.zero_le _) dX7_readTruth_1 rfl ((hi r f0 A F B h _ htp hw hQ hb (fun A2 F2 h2 hw frA frF hQ2 => ?_)))
  have hb2 := tx_gd_bind hb hG
  cases e2 : tx_bind r item with
  | inr e =>
    rw [e2] at hQ2
    exact JE e A2 F2 h2 hw frA frF hQ2.1 (by rw [e2]; rfl)
  | inl x =>
    rw [e2] at hQ2 hb2
    have hb2 : 0 + x.1.length ≤ x.2 ∧ x.2 ≤ T.length := hb2
    exact L (T.length + 1) x A2 F2 h2 (by omega) hw frA frF hQ2 (by omega) hb2.2 (by rw [e2])
/-- a sum, by levels -/
theorem sr_sum (hg : nd_OK g) (hlo : tx_lo lm la) (hT : T.length ≤ 900) : ∀ k dp d, dp + k = 6 → 9 + 3 * k ≤ d → tx_C g h0 T mX7_readSum d dp lm la (tx_sum T (tx_m lm) k) := by
  intro k
  induction k with
  | zero =>
    intro dp d h6 hd
    have ha : tx_C g h0 T mX7_readAtom (d - 1 - 1) dp lm la (tx_atom T (tx_m lm) none) := sr_atom (k := 0) hg (by omega) hlo hT h6 (fun k2 e => by omega)
    exact sr_sum0 hg (by omega) hlo hT (sr_term hg (by omega) hlo hT ha (tx_G_atom trivial)) (tx_G_seq (tx_G_atom trivial) tx_times_k)
  | succ k ih =>
    intro dp d h6 hd
    have ha : tx_C g h0 T mX7_readAtom (d - 1 - 1) dp lm la (tx_atom T (tx_m lm) (some (tx_sum T (tx_m lm) k))) := sr_atom (k := k + 1) hg (by omega) hlo hT h6 (fun k2 e => by
      have e2 : k2 = k := by omega
      subst e2
      exact ih (dp + 1) _ (by omega) (by omega))
    exact sr_sum0 hg (by omega) hlo hT (sr_term hg (by omega) hlo hT ha (tx_G_atom (r := some (tx_sum T (tx_m lm) k)) (tx_G_sum T (tx_m lm) k))) (tx_G_seq (tx_G_atom (r := some (tx_sum T (tx_m lm) k)) (tx_G_sum T (tx_m lm) k)) tx_times_k)
end RT4

