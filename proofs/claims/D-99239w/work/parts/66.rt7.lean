set_option maxRecDepth 100000
section RT7
variable {g : nd_G} {d : Nat} {K : nd_K} {h h0 : nd_H} {A : Nat → Nat → Int32} {F : Nat → Int32} {B : Nat → Nat → Int64} {T : List Nat}
/-- the state between lines -/
def tx_LZ (T : List Nat) (r : (tx_N × Nat) ⊕ (Nat × Nat)) (A : Nat → Nat → Int32) (F : Nat → Int32) : Prop := match r with
  | .inl x => tx_Z T 0 (.inl ([], x.2)) F ∧ tx_kn (A 1) x.1
  | .inr e => tx_Z T 0 (.inr e) F
/-- a law's line -/
theorem tx_law_line {s : Nat} (hs1 : 2 ≤ s) (hs2 : s ≤ 4) {N : tx_N} (hN : tx_NI N) (hkn : tx_kn (A 1) N) {f : Nat → tx_R} {mm : nd_Mt} (hC : tx_C g h0 T mm d 0 (s + 1) (900 * s - 1591) f) (hT : T.length ≤ 900) (htp : tx_tp A T) {r : tx_R} (hr : tx_gd T 0 r) (hr0 : ∀ z, r = .inl z → z.1 = []) (hw : mo_W h0 (va_up A 1 (upd (A 1) (s + 1) (nI 0))) F B h) (h17 : F 17 = nI (s + 1)) (h18 : F 18 = nI (900 * s - 1591)) (hZ : tx_Z T 0 r F) (hG : tx_G T f)
    (hk : ∀ A2 F2 h2, mo_W h0 A2 F2 B h2 → (∀ k, k ≠ 1 → A2 k = A k) → tx_u F F2 → tx_Z T 0 (tx_bind r f) F2 → (∀ z, tx_bind r f = .inl z → tx_kn (A2 1) (tx_put N s z.1)) → K (.inl none) h2) : nd_M g mm d 0 0 [.ref 101] h K := by
  refine hC r (upd (A 1) (s + 1) (nI 0)) (va_up A 1 (upd (A 1) (s + 1) (nI 0))) F B h K (htp.k (fun k hk => va_up_n _ _ hk)) hw ⟨hZ, fun z ez => ⟨h17, h18, ?_⟩⟩ hr (fun A2 F2 h2 hw2 frA frF hQ => ?_)
  · rw [hr0 z ez, va_up_s]
    exact ⟨upd_s .., fun i hi => absurd hi (Nat.not_lt_zero _), fun j _ _ => rfl⟩
  · refine hk A2 F2 h2 hw2 (fun k hk => (frA k hk).trans (va_up_n _ _ hk)) frF hQ.1 (fun z ez => ?_)
    obtain ⟨-, -, hL⟩ := hQ.2 z ez
    have hg := tx_gd_bind hr hG
    rw [ez] at hg
    have hg : 0 + z.1.length ≤ z.2 ∧ z.2 ≤ T.length := hg
    refine tx_kn_law hN hkn hs1 hs2 (by omega) ⟨hL.1, hL.2.1, fun j j1 j2 => ?_⟩
    rw [hL.2.2 j j1 j2, upd_n j1]
theorem sr_line (hg : nd_OK g) (hd : 60 ≤ d) (hw : mo_W h0 A F B h) (htp : tx_tp A T) {p : Nat} (hin : p ≤ T.length) (hZ : tx_Z T 0 (.inl ([], p)) F) {N : tx_N} (hN : tx_NI N) (hl : N.2.2.2.1 ≤ p) (hkn : tx_kn (A 1) N) (hk : ∀ A2 F2 h2, mo_W h0 A2 F2 B h2 → (∀ k, k ≠ 1 → A2 k = A k) → tx_u F F2 → tx_LZ T (tx_line T N p) A2 F2 → K (.inl none) h2) : nd_M g mX7_readLine d 0 0 [.ref 101] h K := by
  have hT := htp.1
  have hgb := tx_gd_body (T := T) N hin
  refine nd_enter hg (by decide) rfl (Nat.le_of_ble_eq_true rfl) (fun X hC => ?_)
  have J109 : ∀ A4 F4 h4, mo_W h0 A4 F4 B h4 → (∀ k, k ≠ 1 → A4 k = A k) → tx_u F F4 → tx_Z T 0 (tx_body T N (tx_sort T p) p) F4 → (∀ z, tx_body T N (tx_sort T p) p = .inl z → tx_kn (A4 1) (tx_put N (tx_sort T p) z.1)) → nd_W g mX7_readLine d 0 0 K X 109 [some (.ref 101)] [] h4 0 0 := by
    intro A4 F4 h4 hw frA frF Z4 K4
    have el : (tx_put N (tx_sort T p) [0, 0]).2.2.2.1 = N.2.2.2.1 := by
      generalize tx_sort T p = s
      match s with
      | 0 => rfl
      | 1 => rfl
      | 2 => rfl
      | 3 => rfl
      | s + 4 => rfl
    have eX : ∃ N2 : tx_N, ∀ z, tx_body T N (tx_sort T p) p = .inl z → N2 = tx_put N (tx_sort T p) z.1 ∧ N2.2.2.2.1 = N.2.2.2.1 := by
      cases hb : tx_body T N (tx_sort T p) p with
      | inr e => exact ⟨N, fun z ez => by cases ez⟩
      | inl z =>
        refine ⟨tx_put N (tx_sort T p) z.1, fun z2 ez => ?_⟩
        cases ez
        refine ⟨rfl, ?_⟩
        generalize tx_sort T p = s
        match s with
        | 0 => rfl
        | 1 => rfl
        | 2 => rfl
        | 3 => rfl
        | s + 4 => rfl
    obtain ⟨N2, eN⟩ := eX
    refine nd_aload_n hC dX7_readLine_109 rfl rfl ?_
    refine mo_callV (As := []) (d2 := d - 1) hC hw rfl lkX7_241 lyX7_241 (Nat.le_of_ble_eq_true rfl) (by omega) rfl (by exact Nat.le_of_ble_eq_true rfl) (Nat.zero_le _) (Nat.zero_le _) dX7_readLine_110 rfl ((sr_stop (N := N2) hg (by omega) hw (htp.k frA) hgb.i Z4 (fun z ez => ?_) (fun A5 F5 h5 hw fr5A y5 Z5 K5 => ?_)))
    · obtain ⟨a1, a2⟩ := eN z ez
      exact ⟨by rw [a1]; exact K4 z ez, by omega⟩
    · refine nd_return hC rfl (by omega) (by omega) dX7_readLine_113 (hk A5 F5 h5 hw (tx_k1 frA fr5A) (frF.trans y5.u) ?_)
      unfold tx_line
      cases e : tx_bind (tx_body T N (tx_sort T p) p) (tx_must T 59) with
      | inr e1 => rw [e] at Z5; exact Z5
      | inl z =>
        rw [e] at Z5
        refine ⟨Z5, ?_⟩
        obtain ⟨x1, y1, q1, q2, q3⟩ := tx_bind_inl e
        have ey : y1.1 = [] := by
          unfold tx_must at q2
          split at q2
          · cases q2; rfl
          · cases q2
        have ez : z.1 = x1.1 := by rw [q3, ey, List.append_nil]
        have := K5 z e
        rw [(eN x1 q1).1, ← ez] at this
        exact this
  refine nd_aload_n hC dX7_readLine_0 rfl rfl ?_
  refine nd_ldcS hC (i := 17) (r := ("NapkinDeedsModel", 223, "cell", [99, 101, 108, 108])) rfl rfl dX7_readLine_1 ?_
  refine mo_callV (As := [_]) (d2 := d - 1) hC hw rfl lkX7_127 lyX7_127 (Nat.le_of_ble_eq_true rfl) (by omega) rfl (by exact Nat.le_of_ble_eq_true rfl) (Nat.zero_le _) (Nat.zero_le _) dX7_readLine_3 rfl ((sr_isWord (rr := ("NapkinDeedsModel", 223, "cell", [99, 101, 108, 108])) (r := .inl ([], p)) hg (by omega) hw htp hin hZ rfl ?_))
  rw [show tx_isw T [99, 101, 108, 108] (.inl ([], p)) = tx_w T p tx_cell from rfl]
  first | with_reducible refine nd_if_eqB hC (tgt := 16) dX7_readLine_6 (by decide) (fun c0 => ?_) (fun c0 => ?_) | with_reducible refine nd_if_eqN hC (tgt := 16) (by omega) dX7_readLine_6 (by decide) (fun c0 => ?_) (fun c0 => ?_) | refine nd_if_eq hC (tgt := 16) dX7_readLine_6 (by decide) (fun c0 => ?_) (fun c0 => ?_)
  · have e0 : ¬ tx_w T p tx_cell = true := by rw [c0]; decide
    refine nd_aload_n hC dX7_readLine_16 rfl rfl ?_
    refine nd_ldcS hC (i := 19) (r := ("NapkinDeedsModel", 202, "guest", [103, 117, 101, 115, 116])) rfl rfl dX7_readLine_17 ?_
    refine mo_callV (As := [_]) (d2 := d - 1) hC hw rfl lkX7_127 lyX7_127 (Nat.le_of_ble_eq_true rfl) (by omega) rfl (by exact Nat.le_of_ble_eq_true rfl) (Nat.zero_le _) (Nat.zero_le _) dX7_readLine_19 rfl ((sr_isWord (rr := ("NapkinDeedsModel", 202, "guest", [103, 117, 101, 115, 116])) (r := .inl ([], p)) hg (by omega) hw htp hin hZ rfl ?_))
    rw [show tx_isw T [103, 117, 101, 115, 116] (.inl ([], p)) = tx_w T p tx_guest from rfl]
    first | with_reducible refine nd_if_eqB hC (tgt := 32) dX7_readLine_22 (by decide) (fun c1 => ?_) (fun c1 => ?_) | with_reducible refine nd_if_eqN hC (tgt := 32) (by omega) dX7_readLine_22 (by decide) (fun c1 => ?_) (fun c1 => ?_) | refine nd_if_eq hC (tgt := 32) dX7_readLine_22 (by decide) (fun c1 => ?_) (fun c1 => ?_)
    · have e1 : ¬ tx_w T p tx_guest = true := by rw [c1]; decide
      refine nd_aload_n hC dX7_readLine_32 rfl rfl ?_
      refine nd_ldcS hC (i := 20) (r := ("NapkinDeedsModel", 231, "worth", [119, 111, 114, 116, 104])) rfl rfl dX7_readLine_33 ?_
      refine mo_callV (As := [_]) (d2 := d - 1) hC hw rfl lkX7_142 lyX7_142 (Nat.le_of_ble_eq_true rfl) (by omega) rfl (by exact Nat.le_of_ble_eq_true rfl) (Nat.zero_le _) (Nat.zero_le _) dX7_readLine_35 rfl ((sr_took (rr := ("NapkinDeedsModel", 231, "worth", [119, 111, 114, 116, 104])) (r := .inl ([], p)) hg (by omega) hw htp hin hZ rfl (fun F1 h1 hw y1 Z1 => ?_)))
      rw [show tx_isw T [119, 111, 114, 116, 104] (.inl ([], p)) = tx_w T p tx_worth from rfl]
      have Z1 : tx_Z T 0 (if tx_w T p tx_worth = true then tx_bind (.inl ([], p)) (tx_on T) else .inl ([], p)) F1 := Z1
      first | with_reducible refine nd_if_eqB hC (tgt := 56) dX7_readLine_38 (by decide) (fun c2 => ?_) (fun c2 => ?_) | with_reducible refine nd_if_eqN hC (tgt := 56) (by omega) dX7_readLine_38 (by decide) (fun c2 => ?_) (fun c2 => ?_) | refine nd_if_eq hC (tgt := 56) dX7_readLine_38 (by decide) (fun c2 => ?_) (fun c2 => ?_)
      · have e2 : ¬ tx_w T p tx_worth = true := by rw [c2]; decide
        rw [if_neg e2] at Z1
        refine nd_aload_n hC dX7_readLine_56 rfl rfl ?_
        refine nd_ldcS hC (i := 28) (r := ("NapkinDeedsModel", 237, "holds", [104, 111, 108, 100, 115])) rfl rfl dX7_readLine_57 ?_
        refine mo_callV (As := [_]) (d2 := d - 1) hC hw rfl lkX7_142 lyX7_142 (Nat.le_of_ble_eq_true rfl) (by omega) rfl (by exact Nat.le_of_ble_eq_true rfl) (Nat.zero_le _) (Nat.zero_le _) dX7_readLine_59 rfl ((sr_took (rr := ("NapkinDeedsModel", 237, "holds", [104, 111, 108, 100, 115])) (r := .inl ([], p)) hg (by omega) hw htp hin Z1 rfl (fun F2 h2 hw y2 Z2 => ?_)))
        rw [show tx_isw T [104, 111, 108, 100, 115] (.inl ([], p)) = tx_w T p tx_holds from rfl]
        have Z2 : tx_Z T 0 (if tx_w T p tx_holds = true then tx_bind (.inl ([], p)) (tx_on T) else .inl ([], p)) F2 := Z2
        first | with_reducible refine nd_if_eqB hC (tgt := 80) dX7_readLine_62 (by decide) (fun c3 => ?_) (fun c3 => ?_) | with_reducible refine nd_if_eqN hC (tgt := 80) (by omega) dX7_readLine_62 (by decide) (fun c3 => ?_) (fun c3 => ?_) | refine nd_if_eq hC (tgt := 80) dX7_readLine_62 (by decide) (fun c3 => ?_) (fun c3 => ?_)
        · have e3 : ¬ tx_w T p tx_holds = true := by rw [c3]; decide
          rw [if_neg e3] at Z2
          refine nd_aload_n hC dX7_readLine_80 rfl rfl ?_
          refine nd_ldcS hC (i := 32) (r := ("NapkinDeedsModel", 239, "likes", [108, 105, 107, 101, 115])) rfl rfl dX7_readLine_81 ?_
          refine mo_callV (As := [_]) (d2 := d - 1) hC hw rfl lkX7_142 lyX7_142 (Nat.le_of_ble_eq_true rfl) (by omega) rfl (by exact Nat.le_of_ble_eq_true rfl) (Nat.zero_le _) (Nat.zero_le _) dX7_readLine_83 rfl ((sr_took (rr := ("NapkinDeedsModel", 239, "likes", [108, 105, 107, 101, 115])) (r := .inl ([], p)) hg (by omega) hw htp hin Z2 rfl (fun F3 h3 hw y3 Z3 => ?_)))
          rw [show tx_isw T [108, 105, 107, 101, 115] (.inl ([], p)) = tx_w T p tx_likes from rfl]
          have Z3 : tx_Z T 0 (if tx_w T p tx_likes = true then tx_bind (.inl ([], p)) (tx_on T) else .inl ([], p)) F3 := Z3
          first | with_reducible refine nd_if_eqB hC (tgt := 104) dX7_readLine_86 (by decide) (fun c4 => ?_) (fun c4 => ?_) | with_reducible refine nd_if_eqN hC (tgt := 104) (by omega) dX7_readLine_86 (by decide) (fun c4 => ?_) (fun c4 => ?_) | refine nd_if_eq hC (tgt := 104) dX7_readLine_86 (by decide) (fun c4 => ?_) (fun c4 => ?_)
          · have e4 : ¬ tx_w T p tx_likes = true := by rw [c4]; decide
            rw [if_neg e4] at Z3
            have es : tx_sort T p = 5 := by unfold tx_sort; rw [if_neg e0, if_neg e1, if_neg e2, if_neg e3, if_neg e4]
            rw [es] at J109
            refine nd_aload_n hC dX7_readLine_104 rfl rfl ?_
            refine nd_iconst hC (v := nI 2) (by rfl) dX7_readLine_105 ?_
            refine mo_callV (As := [_]) (d2 := d - 1) hC hw rfl lkX7_134 lyX7_134 (Nat.le_of_ble_eq_true rfl) (by omega) rfl (by exact Nat.le_of_ble_eq_true rfl) (Nat.zero_le _) (Nat.zero_le _) dX7_readLine_106 rfl ((sr_blames hg hw Z3 (by omega) (by omega) (fun F4 h4 hw y4 Z4 => ?_)))
            exact J109 A F4 h4 hw (fun _ _ => rfl) (((y1.trans y2).trans y3).trans y4).u Z4 (fun z ez => by cases ez)
          · have es : tx_sort T p = 4 := by unfold tx_sort; rw [if_neg e0, if_neg e1, if_neg e2, if_neg e3, if_pos c4]
            rw [es] at J109
            rw [if_pos c4, tx_bind_on] at Z3
            refine nd_aload_n hC dX7_readLine_89 rfl rfl ?_
            refine nd_iconst hC (v := nI 5) (by rfl) dX7_readLine_90 ?_
            refine nd_sipush hC (v := nI 2009) (by rfl) dX7_readLine_91 ?_
            refine mo_callV (As := [_, _]) (d2 := d - 1) hC hw rfl lkX7_233 lyX7_233 (Nat.le_of_ble_eq_true rfl) (by omega) rfl (by exact Nat.le_of_ble_eq_true rfl) (Nat.zero_le _) (Nat.zero_le _) dX7_readLine_94 rfl ((sr_beginsLaw (x := ([], tx_h T p)) (lm := 5) (la := 2009) hg (by omega) hw htp (tx_h_le T hin) Z3 ⟨by omega, by omega, by omega, by omega⟩ (fun F4 h4 hw y4 g17 g18 Z4 => ?_)))
            refine nd_aload_n hC dX7_readLine_97 rfl rfl ?_
            refine mo_callV (As := []) (d2 := d - 1) hC hw rfl lkX7_181 lyX7_181 (Nat.le_of_ble_eq_true rfl) (by omega) rfl (by exact Nat.le_of_ble_eq_true rfl) (Nat.zero_le _) (Nat.zero_le _) dX7_readLine_98 rfl ((tx_law_line (s := 4) (by omega) (by omega) hN hkn (sr_sum (lm := 5) (la := 2009) hg ⟨by omega, by omega, by omega, by omega⟩ hT 6 0 _ (by omega) (by omega)) hT htp (tx_gd_bind (a := 0) (r := .inl ([], tx_h T p)) ⟨Nat.zero_le _, tx_h_le T hin⟩ (tx_G_must T 58)) (fun z ez => ?_) hw g17 g18 Z4 (tx_G_sum T 8 6) (fun A5 F5 h5 hw frA frF Z5 K5 => ?_)))
            · obtain ⟨x1, y1, q1, q2, q3⟩ := tx_bind_inl ez
              cases q1
              unfold tx_must at q2
              split at q2
              · cases q2; rw [q3]; rfl
              · cases q2
            · refine nd_goto hC (tgt := 109) dX7_readLine_101 (by decide) ?_
              have er : tx_bind (tx_bind (.inl ([], tx_h T p)) (tx_must T 58)) (tx_sum T 8 6) = tx_body T N 4 p := rfl
              exact J109 A5 F5 h5 hw frA ((((y1.trans y2).trans y3).u.trans y4).trans frF) Z5 K5
        · have es : tx_sort T p = 3 := by unfold tx_sort; rw [if_neg e0, if_neg e1, if_neg e2, if_pos c3]
          rw [es] at J109
          rw [if_pos c3, tx_bind_on] at Z2
          refine nd_aload_n hC dX7_readLine_65 rfl rfl ?_
          refine nd_iconst hC (v := nI 4) (by rfl) dX7_readLine_66 ?_
          refine nd_sipush hC (v := nI 1109) (by rfl) dX7_readLine_67 ?_
          refine mo_callV (As := [_, _]) (d2 := d - 1) hC hw rfl lkX7_233 lyX7_233 (Nat.le_of_ble_eq_true rfl) (by omega) rfl (by exact Nat.le_of_ble_eq_true rfl) (Nat.zero_le _) (Nat.zero_le _) dX7_readLine_70 rfl ((sr_beginsLaw (x := ([], tx_h T p)) (lm := 4) (la := 1109) hg (by omega) hw htp (tx_h_le T hin) Z2 ⟨by omega, by omega, by omega, by omega⟩ (fun F4 h4 hw y4 g17 g18 Z4 => ?_)))
          refine nd_aload_n hC dX7_readLine_73 rfl rfl ?_
          refine mo_callV (As := []) (d2 := d - 1) hC hw rfl lkX7_178 lyX7_178 (Nat.le_of_ble_eq_true rfl) (by omega) rfl (by exact Nat.le_of_ble_eq_true rfl) (Nat.zero_le _) (Nat.zero_le _) dX7_readLine_74 rfl ((tx_law_line (s := 3) (by omega) (by omega) hN hkn (sr_truth (lm := 4) (la := 1109) hg ⟨by omega, by omega, by omega, by omega⟩ hT (by omega)) hT htp (tx_gd_bind (a := 0) (r := .inl ([], tx_h T p)) ⟨Nat.zero_le _, tx_h_le T hin⟩ (tx_G_must T 58)) (fun z ez => ?_) hw g17 g18 Z4 (tx_G_truth T 6 6) (fun A5 F5 h5 hw frA frF Z5 K5 => ?_)))
          · obtain ⟨x1, y1, q1, q2, q3⟩ := tx_bind_inl ez
            cases q1
            unfold tx_must at q2
            split at q2
            · cases q2; rw [q3]; rfl
            · cases q2
          · refine nd_goto hC (tgt := 109) dX7_readLine_77 (by decide) ?_
            exact J109 A5 F5 h5 hw frA (((y1.trans y2).u.trans y4).trans frF) Z5 K5
      · have es : tx_sort T p = 2 := by unfold tx_sort; rw [if_neg e0, if_neg e1, if_pos c2]
        rw [es] at J109
        rw [if_pos c2, tx_bind_on] at Z1
        refine nd_aload_n hC dX7_readLine_41 rfl rfl ?_
        refine nd_iconst hC (v := nI 3) (by rfl) dX7_readLine_42 ?_
        refine nd_sipush hC (v := nI 209) (by rfl) dX7_readLine_43 ?_
        refine mo_callV (As := [_, _]) (d2 := d - 1) hC hw rfl lkX7_233 lyX7_233 (Nat.le_of_ble_eq_true rfl) (by omega) rfl (by exact Nat.le_of_ble_eq_true rfl) (Nat.zero_le _) (Nat.zero_le _) dX7_readLine_46 rfl ((sr_beginsLaw (x := ([], tx_h T p)) (lm := 3) (la := 209) hg (by omega) hw htp (tx_h_le T hin) Z1 ⟨by omega, by omega, by omega, by omega⟩ (fun F4 h4 hw y4 g17 g18 Z4 => ?_)))
        refine nd_aload_n hC dX7_readLine_49 rfl rfl ?_
        refine mo_callV (As := []) (d2 := d - 1) hC hw rfl lkX7_181 lyX7_181 (Nat.le_of_ble_eq_true rfl) (by omega) rfl (by exact Nat.le_of_ble_eq_true rfl) (Nat.zero_le _) (Nat.zero_le _) dX7_readLine_50 rfl ((tx_law_line (s := 2) (by omega) (by omega) hN hkn (sr_sum (lm := 3) (la := 209) hg ⟨by omega, by omega, by omega, by omega⟩ hT 6 0 _ (by omega) (by omega)) hT htp (tx_gd_bind (a := 0) (r := .inl ([], tx_h T p)) ⟨Nat.zero_le _, tx_h_le T hin⟩ (tx_G_must T 58)) (fun z ez => ?_) hw g17 g18 Z4 (tx_G_sum T 6 6) (fun A5 F5 h5 hw frA frF Z5 K5 => ?_)))
        · obtain ⟨x1, y1, q1, q2, q3⟩ := tx_bind_inl ez
          cases q1
          unfold tx_must at q2
          split at q2
          · cases q2; rw [q3]; rfl
          · cases q2
        · refine nd_goto hC (tgt := 109) dX7_readLine_53 (by decide) ?_
          exact J109 A5 F5 h5 hw frA ((y1.u.trans y4).trans frF) Z5 K5
    · have es : tx_sort T p = 1 := by unfold tx_sort; rw [if_neg e0, if_pos c1]
      rw [es] at J109
      have hk1 := tx_w_k c1
      refine nd_aload_n hC dX7_readLine_25 rfl rfl ?_
      refine mo_callV (As := []) (d2 := d - 1) hC hw rfl lkX7_228 lyX7_228 (Nat.le_of_ble_eq_true rfl) (by omega) rfl (by exact Nat.le_of_ble_eq_true rfl) (Nat.zero_le _) (Nat.zero_le _) dX7_readLine_26 rfl ((sr_guest hg (by omega) hw htp hin hZ hN hkn (by omega) (fun A4 F4 h4 hw frA y4 Z4 K4 => ?_)))
      refine nd_goto hC (tgt := 109) dX7_readLine_29 (by decide) ?_
      exact J109 A4 F4 h4 hw frA y4.u Z4 K4
  · have es : tx_sort T p = 0 := by unfold tx_sort; rw [if_pos c0]
    rw [es] at J109
    have hk1 := tx_w_k c0
    refine nd_aload_n hC dX7_readLine_9 rfl rfl ?_
    refine mo_callV (As := []) (d2 := d - 1) hC hw rfl lkX7_225 lyX7_225 (Nat.le_of_ble_eq_true rfl) (by omega) rfl (by exact Nat.le_of_ble_eq_true rfl) (Nat.zero_le _) (Nat.zero_le _) dX7_readLine_10 rfl ((sr_cell hg (by omega) hw htp hin hZ hN hkn (by omega) (fun A4 F4 h4 hw frA y4 Z4 K4 => ?_)))
    refine nd_goto hC (tgt := 109) dX7_readLine_13 (by decide) ?_
    exact J109 A4 F4 h4 hw frA y4.u Z4 K4
end RT7

