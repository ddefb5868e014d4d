set_option maxRecDepth 100000
/-! ===== a search from beginning to end ===== -/
section CP33
variable {g : nd_G} {K : nd_K} {h h0 : nd_H} {o : Nat → Nat} {nap : Nat} {ds : List Nat} {gi : Nat → Value} {dss : Nat → List Nat} {S : sy_S}
theorem cw_seek (hg : nd_OK g) {d d0 b ci rb most : Nat} {fl : Bool} {σ : Type} {see : σ → lv_E → σ} {Bd : σ → Prop} {Ob : σ → nd_H → Prop} {s0 : σ} (hd : d0 + most + 2 ≤ d) (hd0 : 4 ≤ d0) (hm : most ≤ 5) (hS : sy_ok S) (hK : cw_K o nap ds gi dss S h0) (hl0 : 123 ≤ h0.length) (hs : cw_S h) (hf : cw_f h0 h) (hb : h0.length ≤ b) (hrb : h0.length ≤ rb)
    (hO1 : ∀ s h, Ob s h → ro_at h b ci rb ∧ ∃ f, h[rb]? = some (.inl (0, 5, .inl f)))
    (hO2 : ∀ s h h2, Ob s h → h2.length = h.length → (∀ a, h0.length ≤ a ∨ a = 100 → a ≠ rb → h2[a]? = h[a]?) → (∃ f, h2[rb]? = some (.inl (0, 5, .inl f))) → Ob s h2)
    (hsee : ∀ d, d0 ≤ d → ∀ (s : σ) (r : List Nat) (l : List (List Nat)) (h : nd_H) (K : nd_K), Bd s → Ob s h → cw_S h → cw_f h0 h → ck_lk h (18 + 9 * r.length) l → lk_ok (sy_n S) l → cr_rw h rb r → r.length ≤ 5 → (∀ h2, Ob (see s (r, l)) h2 → cw_S h2 → cw_f h0 h2 → h2.length = h.length → (∀ a, (18 ≤ a ∧ a < 72) ∨ a = rb → h2[a]? = h[a]?) → K (.inl none) h2) → ro_M g h b d [.ref (18 + 9 * r.length), .int (nI r.length), .int (nI (cr_fo (sy_c S) fl + r.length))] K)
    (hOb : Ob s0 h) (hB : df_B see Bd s0 (df most [] (cr_l0 (sy_N S) (sy_c S) fl)))
    (hk : ∀ h2, Ob ((df most [] (cr_l0 (sy_N S) (sy_c S) fl)).foldl see s0) h2 → cw_S h2 → cw_f h0 h2 → h2.length = h.length → K (.inl (some (.ref b))) h2) : nd_M g mX20_seeks d 0 0 [.ref b, .int (nd_b fl), .int (nI most)] h K := by
  have hKh := hK.f hf
  refine cr_seeks hg (d0 := d0) (b := b) (ci := ci) (rb := rb) (o := o) (nap := nap) (N := sy_N S) (sv0 := sy_c S) (fl := fl) (see := see) (Bd := Bd) (Iv := fun s h => Ob s h ∧ cw_S h ∧ cw_f h0 h) (s0 := s0) hd hd0 hm (hO1 _ _ hOb).1 (by omega) (hO1 _ _ hOb).2 (by omega) (hKh.P hs) hS.1.1.1 hS.1.2.1.1 ?_ ?_ ?_ ?_ hB (fun h2 H hl => hk h2 H.1 H.2.1 H.2.2 hl)
  · intro d2 hd2 s r l h K hBs H hl hok hrw h5 kk
    exact hsee d2 hd2 s r l h K hBs H.1 H.2.1 H.2.2 hl hok hrw h5 (fun h2 a1 a2 a3 a4 a5 => kk h2 ⟨a1, a2, a3⟩ a4 a5)
  · intro s h H
    obtain ⟨⟨x0, hO⟩, h17, -⟩ := hK.f H.2.2
    exact ⟨(hO1 s h H.1).1, ⟨_, _, _, _, hO⟩, h17, fun k hk => H.2.1.1 k (by omega), by omega⟩
  · intro s h h2 H hl hf2 hany hrow
    obtain ⟨H1, H2, H3⟩ := H
    have hf3 : cw_f h0 h2 := ⟨by rw [hl]; exact H3.1, fun a c e z => by
      have h9 := H3.2 a c e z
      have := nd_get_lt e
      rw [hf2 a (fun q => z (by unfold cw_sc; omega)) (by omega)]; exact h9⟩
    refine ⟨hO2 s h h2 H1 hl (fun a ha1 ha2 => hf2 a (by omega) ha2) hrow, ?_, hf3⟩
    obtain ⟨b1, ⟨tl, b2⟩, ⟨n2, fr, bk, fo, mn, c1, c2, c3, c4⟩, ⟨cf, c5⟩⟩ := H2
    refine ⟨fun k hk => ?_, ⟨tl, (hf2 _ (by omega) (by omega)).trans b2⟩, ⟨n2, fr, bk, fo, mn, (hf2 _ (by omega) (by omega)).trans c1, (hf2 _ (by omega) (by omega)).trans c2, (hf2 _ (by omega) (by omega)).trans c3, (hf2 _ (by omega) (by omega)).trans c4⟩, ⟨cf, (hf2 _ (by omega) (by omega)).trans c5⟩⟩
    by_cases z : k < 6
    · exact hany k z
    · obtain ⟨w, hi, co, d1, d2, d3, d4⟩ := b1 k hk
      exact ⟨w, hi, co, (hf2 _ (by omega) (by omega)).trans d1, (hf2 _ (by omega) (by omega)).trans d2, fun t ht => (hf2 _ (by omega) (by omega)).trans (d3 t ht), (hf2 _ (by omega) (by omega)).trans d4⟩
  · intro h2 f2 hP2
    have hf3 : cw_f h0 h2 := hf.trans (f2.cwf (fun a h1 h2 => by unfold cw_sc; omega))
    refine ⟨hO2 s0 h h2 hOb f2.1 (fun a ha1 ha2 => f2.2 a (by omega)) ?_, hP2.S hs (fun a ha => f2.2 a (by omega)), hf3⟩
    obtain ⟨f, ef⟩ := (hO1 _ _ hOb).2
    exact ⟨f, (f2.2 rb (by omega)).trans ef⟩
theorem cx_mustRows {d : Nat} (hg : nd_OK g) (hd : 1 ≤ d) {x : Int32} (ht : op_in x 0 5 = true → K (.inl none) h) (hf : op_in x 0 5 = false → ∀ n, K (.inr (eIAE, h.length)) (h ++ List.replicate (n + 1) nd_J)) : nd_M g mX1_mustRows d 1 6 [.int x] h K := by
  refine nd_enter hg (by decide) rfl (Nat.le_of_ble_eq_true rfl) (fun X hC => ?_)
  refine nd_iload_n hC dX1_mustRows_0 rfl ?_
  first | with_reducible refine nd_i2lN hC (by omega) dX1_mustRows_1 ?_ | refine nd_i2l hC dX1_mustRows_1 ?_
  refine nd_lconst hC (v := lN 0) (by rfl) dX1_mustRows_2 ?_
  refine nd_ldc2 hC q2130 dX1_mustRows_3 ?_
  refine nd_v_eq (y := .long (lN 5)) (by rfl) ?_
  refine nd_callS (mm2 := mX1_isIn) (As := [_, _, _]) (mc2 := 0) (ms2 := 0) (d2 := d - 1) hC rfl lkX1_106 lmX1_isIn (Nat.le_of_ble_eq_true rfl) (by omega) rfl (by exact Nat.le_of_ble_eq_true rfl) (by omega) (by omega) dX1_mustRows_6 rfl ((ci_isIn hg ?_))
  have e : (decide (lN 0 ≤ x.toInt64) && decide (x.toInt64 ≤ lN 5)) = op_in x 0 5 := by
    unfold op_in
    rw [Bool.eq_iff_iff, Bool.and_eq_true, nd_lle, nd_lle, nd_tl, lN_toInt (by decide), lN_toInt (by decide), decide_eq_true_iff]
    omega
  rw [e]
  refine nd_callS (mm2 := mX1_needs) (As := [_]) (mc2 := 1) (ms2 := 6) (d2 := d - 1) hC rfl lkX1_110 lmX1_needs (Nat.le_of_ble_eq_true rfl) (by omega) rfl (by exact Nat.le_of_ble_eq_true rfl) (by omega) (by omega) dX1_mustRows_9 rfl ((ci_needs hg (fun hc => ?_) (fun hc n => ?_)))
  · refine nd_return hC rfl (by omega) (by omega) dX1_mustRows_12 ((ht hc))
  · exact nd_out hC rfl (by omega) (by omega) (hf hc n)
theorem cx_mustTell {d : Nat} (hg : nd_OK g) (hd : 1 ≤ d) {x : Int32} (ht : op_isWhat x = true → K (.inl none) h) (hf : op_isWhat x = false → ∀ n, K (.inr (eIAE, h.length)) (h ++ List.replicate (n + 1) nd_J)) : nd_M g mX1_mustTell d 1 6 [.int x] h K := by
  have hN : ∀ X, nd_Cx g mX1_mustTell X → nd_W g mX1_mustTell d 1 6 K X 23 [some (.int x)] [.int (nd_b (op_isWhat x))] h 0 0 := by
    intro X hC
    refine nd_callS (mm2 := mX1_needs) (As := [_]) (mc2 := 1) (ms2 := 6) (d2 := d - 1) hC rfl lkX1_110 lmX1_needs (Nat.le_of_ble_eq_true rfl) (by omega) rfl (by exact Nat.le_of_ble_eq_true rfl) (by omega) (by omega) dX1_mustTell_23 rfl ((ci_needs hg (fun hc => ?_) (fun hc n => ?_)))
    · refine nd_return hC rfl (by omega) (by omega) dX1_mustTell_26 ((ht hc))
    · exact nd_out hC rfl (by omega) (by omega) (hf hc n)
  refine nd_enter hg (by decide) rfl (Nat.le_of_ble_eq_true rfl) (fun X hC => ?_)
  have N1 := hN X hC
  refine nd_iload_n hC dX1_mustTell_0 rfl ?_
  refine nd_if_eq hC (tgt := 18) dX1_mustTell_1 (by decide) (fun hq => ?_) (fun hq => ?_)
  · refine nd_iconst hC (v := nI 1) (by rfl) dX1_mustTell_18 ?_
    refine nd_goto hC (tgt := 23) dX1_mustTell_19 (by decide) ?_
    rw [show op_isWhat x = true by unfold op_isWhat; rw [decide_eq_true hq]; rfl] at N1
    exact N1
  · refine nd_iload_n hC dX1_mustTell_4 rfl ?_
    first | with_reducible refine nd_i2lN hC (by omega) dX1_mustTell_5 ?_ | refine nd_i2l hC dX1_mustTell_5 ?_
    refine nd_ldc2 hC q2068 dX1_mustTell_6 ?_
    refine nd_v_eq (y := .long (lN 10)) (by rfl) ?_
    refine nd_ldc2 hC q2191 dX1_mustTell_9 ?_
    refine nd_v_eq (y := .long (lN 14)) (by rfl) ?_
    refine nd_callS (mm2 := mX1_isIn) (As := [_, _, _]) (mc2 := 0) (ms2 := 0) (d2 := d - 1) hC rfl lkX1_106 lmX1_isIn (Nat.le_of_ble_eq_true rfl) (by omega) rfl (by exact Nat.le_of_ble_eq_true rfl) (by omega) (by omega) dX1_mustTell_12 rfl ((ci_isIn hg ?_))
    have e : (decide (lN 10 ≤ x.toInt64) && decide (x.toInt64 ≤ lN 14)) = op_in x 10 14 := by
      unfold op_in
      rw [Bool.eq_iff_iff, Bool.and_eq_true, nd_lle, nd_lle, nd_tl, lN_toInt (by decide), lN_toInt (by decide), decide_eq_true_iff]
      omega
    rw [e]
    have e2 : op_isWhat x = op_in x 10 14 := by unfold op_isWhat; rw [decide_eq_false hq]; rfl
    rw [e2] at N1
    first | with_reducible refine nd_if_eqB hC (tgt := 22) dX1_mustTell_15 (by decide) (fun hc => ?_) (fun hc => ?_) | with_reducible refine nd_if_eqN hC (tgt := 22) (by omega) dX1_mustTell_15 (by decide) (fun hc => ?_) (fun hc => ?_) | refine nd_if_eq hC (tgt := 22) dX1_mustTell_15 (by decide) (fun hc => ?_) (fun hc => ?_)
    · rw [hc] at N1
      refine nd_iconst hC (v := nI 0) (by rfl) dX1_mustTell_22 ?_
      exact N1
    · rw [hc] at N1
      refine nd_iconst hC (v := nI 1) (by rfl) dX1_mustTell_18 ?_
      refine nd_goto hC (tgt := 23) dX1_mustTell_19 (by decide) ?_
      exact N1
end CP33

