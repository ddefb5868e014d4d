set_option maxRecDepth 100000
/-- a tray of creases -/
def ty_cr (n : Nat) (v : List Int64) : Bool := decide (v.length = n - 1) && (List.range v.length).all (fun j => decide (0 ≤ (v.getD j 0).toInt ∧ (v.getD j 0).toInt ≤ 2))
def cr_f (x : Int32) (S : sy_S) : Nat := if ty_f x S = 0 then (if ty_cr (sy_n S) (ty_v x S) = true then 0 else 3) else ty_f x S
theorem cr_f_le (x : Int32) (S : sy_S) : cr_f x S ≤ 3 := by
  have := ty_f_le x S
  unfold cr_f
  split
  · split <;> omega
  · omega
theorem cr_f_0 {x : Int32} {S : sy_S} (h : cr_f x S = 0) : ty_f x S = 0 ∧ ty_cr (sy_n S) (ty_v x S) = true := by
  unfold cr_f at h
  by_cases q : ty_f x S = 0
  · rw [if_pos q] at h
    by_cases q2 : ty_cr (sy_n S) (ty_v x S) = true
    · exact ⟨q, q2⟩
    · rw [if_neg q2] at h; exact absurd h (by decide)
  · rw [if_neg q] at h; exact absurd h q
noncomputable abbrev md_r (cond : lv_E → Bool) (xs : List lv_E) : Nat × Option (List Nat) := (lv_go (se_md cond) (0, none) xs).1
noncomputable def op_made (x : Int32) (S : sy_S) : sy_R := if cr_f x S = 0 then (0, nI (md_r (fun e => lk_made e.2 (ty_v x S)) (lv_all 5 (lk_flat (sy_n S)))).1, S) else (cr_f x S, nI 0, S)
noncomputable def op_madeBy (x y : Int32) (S : sy_S) : sy_R := if cr_f x S = 0 then (if 0 ≤ y then (0, (match (md_r (fun e => lk_made e.2 (ty_v x S)) (lv_all 5 (lk_flat (sy_n S)))).2 with | none => -1 | some r => if y.toNatClampNeg < r.length then nI (r.getD y.toNatClampNeg 0) else -1), S) else (3, nI 0, S)) else (cr_f x S, nI 0, S)
section MO22
variable {g : nd_G} {d : Nat} {K : nd_K} {h h0 : nd_H} {A : Nat → Nat → Int32} {F : Nat → Int32} {B : Nat → Nat → Int64} {f : Nat → Int32}
theorem sp_creasesFault (hg : nd_OK g) (hd : 3 ≤ d) {tt : Nat} {S : sy_S} (hI : mo_I tt S A F B) (hS : sy_ok S) (hw : mo_W h0 A F B h) {x : Int32} (hk : K (.inl (some (.int (nI (cr_f x S))))) h) : nd_M g mX7_creasesFault d 0 0 [.ref 101, .int x] h K := by
  have hf := ty_f_le x S
  have hn : sy_n S ≤ 6 := hS.1.1.1
  unfold cr_f at hk
  refine nd_enter hg (by decide) rfl (Nat.le_of_ble_eq_true rfl) (fun X hC => ?_)
  refine nd_aload_n hC dX7_creasesFault_0 rfl rfl ?_
  refine nd_iload_n hC dX7_creasesFault_1 rfl ?_
  refine mo_callV (As := [_]) (d2 := d - 1) hC hw rfl lkX7_389 lyX7_389 (Nat.le_of_ble_eq_true rfl) (by omega) rfl (by exact Nat.le_of_ble_eq_true rfl) (Nat.zero_le _) (Nat.zero_le _) dX7_creasesFault_2 rfl ((sp_trayFault hg (by omega) hI hS hw ?_))
  refine nd_istore_n hC dX7_creasesFault_5 (Nat.le_of_ble_eq_true rfl) ?_
  refine nd_iload_n hC dX7_creasesFault_6 rfl ?_
  first | with_reducible refine nd_if_eqB hC (tgt := 12) dX7_creasesFault_7 (by decide) (fun hc => ?_) (fun hc => ?_) | with_reducible refine nd_if_eqN hC (tgt := 12) (by omega) dX7_creasesFault_7 (by decide) (fun hc => ?_) (fun hc => ?_) | refine nd_if_eq hC (tgt := 12) dX7_creasesFault_7 (by decide) (fun hc => ?_) (fun hc => ?_)
  · rw [if_pos (by omega)] at hk
    obtain ⟨t, q, ht, rfl, eq, ev⟩ := ty_f_0 (show ty_f x S = 0 by omega)
    rw [ev] at hk
    obtain ⟨-, hm, h30, hnum⟩ := (hI.2.2.1 t ht).2 q eq
    generalize hv : q.2 = v at *
    have JE : ∀ (b : Bool) (lv4 : Option Value), b = ty_cr (sy_n S) v → nd_W g mX7_creasesFault d 0 0 K X 81 [some (.ref 101), some (.int (nI t)), some (.int (nI (ty_f (nI t) S))), some (.int (nd_b b)), lv4] [] h 0 0 := by
      intro b lv4 hb
      rw [← hb] at hk
      refine nd_iload_n hC dX7_creasesFault_81 rfl ?_
      first | with_reducible refine nd_if_eqB hC (tgt := 89) dX7_creasesFault_82 (by decide) (fun hq => ?_) (fun hq => ?_) | with_reducible refine nd_if_eqN hC (tgt := 89) (by omega) dX7_creasesFault_82 (by decide) (fun hq => ?_) (fun hq => ?_) | refine nd_if_eq hC (tgt := 89) dX7_creasesFault_82 (by decide) (fun hq => ?_) (fun hq => ?_)
      · rw [if_neg (by rw [hq]; decide)] at hk
        refine nd_iconst hC (v := nI 3) (by rfl) dX7_creasesFault_89 ?_
        refine nd_ireturn hC rfl (by first | rfl | exact nd_b_nar _) (by omega) (by omega) dX7_creasesFault_90 (hk)
      · rw [if_pos hq] at hk
        refine nd_iconst hC (v := nI 0) (by rfl) dX7_creasesFault_85 ?_
        refine nd_goto hC (tgt := 90) dX7_creasesFault_86 (by decide) ?_
        refine nd_ireturn hC rfl (by first | rfl | exact nd_b_nar _) (by omega) (by omega) dX7_creasesFault_90 (hk)
    have L : ∀ k, k ≤ v.length → ∀ b : Bool, (b = true → v.length = sy_n S - 1 ∧ ∀ j, j < k → (0 ≤ (v.getD j 0).toInt ∧ (v.getD j 0).toInt ≤ 2)) → (b = false → ty_cr (sy_n S) v = false) → nd_W g mX7_creasesFault d 0 0 K X 40 [some (.ref 101), some (.int (nI t)), some (.int (nI (ty_f (nI t) S))), some (.int (nd_b b)), some (.int (nI k))] [] h 0 0 := by
      refine nd_for _ _ ?_ ?_
      · intro b hb1 hb2
        refine nd_iload hC dX7_creasesFault_40 rfl ?_
        refine nd_aload_n hC dX7_creasesFault_42 rfl rfl ?_
        refine mo_get_tMany hC hw rfl dX7_creasesFault_43 ?_
        refine nd_iload_n hC dX7_creasesFault_46 rfl ?_
        refine nd_ialoadN hC hw.tMany (by omega) (by decide) dX7_creasesFault_47 ?_
        rw [hm]
        first | with_reducible refine nd_icmp_geN hC (tgt := 81) (by omega) (by omega) dX7_creasesFault_48 (by decide) (fun hq => ?_) (fun hq => ?_) | refine nd_icmp_ge hC (tgt := 81) dX7_creasesFault_48 (by decide) (fun hq => ?_) (fun hq => ?_)
        · refine JE b _ ?_
          cases b with
          | false => exact (hb2 rfl).symm
          | true =>
            obtain ⟨q1, q2⟩ := hb1 rfl
            unfold ty_cr
            rw [decide_eq_true q1, nd_allT (fun j hj => decide_eq_true (q2 j hj))]; rfl
        · omega
      · intro k hk1 ih b hb1 hb2
        refine nd_iload hC dX7_creasesFault_40 rfl ?_
        refine nd_aload_n hC dX7_creasesFault_42 rfl rfl ?_
        refine mo_get_tMany hC hw rfl dX7_creasesFault_43 ?_
        refine nd_iload_n hC dX7_creasesFault_46 rfl ?_
        refine nd_ialoadN hC hw.tMany (by omega) (by decide) dX7_creasesFault_47 ?_
        rw [hm]
        first | with_reducible refine nd_icmp_geN hC (tgt := 81) (by omega) (by omega) dX7_creasesFault_48 (by decide) (fun hq => ?_) (fun hq => ?_) | refine nd_icmp_ge hC (tgt := 81) dX7_creasesFault_48 (by decide) (fun hq => ?_) (fun hq => ?_)
        · omega
        · refine nd_iload_n hC dX7_creasesFault_51 rfl ?_
          first | with_reducible refine nd_if_eqB hC (tgt := 81) dX7_creasesFault_52 (by decide) (fun hq2 => ?_) (fun hq2 => ?_) | with_reducible refine nd_if_eqN hC (tgt := 81) (by omega) dX7_creasesFault_52 (by decide) (fun hq2 => ?_) (fun hq2 => ?_) | refine nd_if_eq hC (tgt := 81) dX7_creasesFault_52 (by decide) (fun hq2 => ?_) (fun hq2 => ?_)
          · exact JE b _ (by rw [hq2]; exact (hb2 hq2).symm)
          · obtain ⟨q1, q2⟩ := hb1 hq2
            refine nd_aload_n hC dX7_creasesFault_55 rfl rfl ?_
            refine mo_get_numbers hC hw rfl dX7_creasesFault_56 ?_
            refine nd_bipush hC (v := nI 30) (by rfl) dX7_creasesFault_59 ?_
            refine nd_iload_n hC dX7_creasesFault_61 rfl ?_
            first | with_reducible refine nd_imulN hC dX7_creasesFault_62 ?_ | refine nd_imul hC dX7_creasesFault_62 ?_
            refine nd_iload hC dX7_creasesFault_63 rfl ?_
            first | with_reducible refine nd_iaddN hC dX7_creasesFault_65 ?_ | refine nd_iadd hC dX7_creasesFault_65 ?_
            refine nd_laloadN hC hw.numbers (by omega) (by decide) dX7_creasesFault_66 ?_
            rw [hnum k hk1]
            refine nd_lconst hC (v := lN 0) (by rfl) dX7_creasesFault_67 ?_
            refine nd_ldc2 hC q3406 dX7_creasesFault_68 ?_
            refine nd_v_eq (y := .long (lN 2)) (by rfl) ?_
            refine mo_callS (As := [_, _, _]) (d2 := d - 1) hC rfl lkX7_138 lyX7_138 (Nat.le_of_ble_eq_true rfl) (by omega) rfl (by exact Nat.le_of_ble_eq_true rfl) (Nat.zero_le _) (Nat.zero_le _) dX7_creasesFault_71 rfl ((sp_within hg ?_))
            have e : (decide (lN 0 ≤ v.getD k 0) && decide (v.getD k 0 ≤ lN 2)) = decide (0 ≤ (v.getD k 0).toInt ∧ (v.getD k 0).toInt ≤ 2) := by
              rw [Bool.eq_iff_iff, Bool.and_eq_true, nd_lle, nd_lle, lN_toInt (by omega), lN_toInt (by omega), decide_eq_true_iff]
              omega
            rw [e]
            refine nd_istore_n hC dX7_creasesFault_74 (Nat.le_of_ble_eq_true rfl) ?_
            first | with_reducible refine nd_iincN hC dX7_creasesFault_75 rfl (Nat.le_of_ble_eq_true rfl) ?_ | refine nd_iinc hC dX7_creasesFault_75 rfl rfl (Nat.le_of_ble_eq_true rfl) ?_
            refine nd_goto hC (tgt := 40) dX7_creasesFault_78 (by decide) ?_
            refine ih _ (fun q => ⟨q1, fun j hj => ?_⟩) (fun q => ?_)
            · by_cases e : j = k
              · subst e; exact of_decide_eq_true q
              · exact q2 j (by omega)
            · unfold ty_cr
              rw [nd_allF hk1 q, Bool.and_false]
    have J2 : ∀ b : Bool, b = decide (v.length = sy_n S - 1) → nd_W g mX7_creasesFault d 0 0 K X 36 [some (.ref 101), some (.int (nI t)), some (.int (nI (ty_f (nI t) S))), none, none] [.int (nd_b b)] h 0 0 := by
      intro b hb
      refine nd_istore_n hC dX7_creasesFault_36 (Nat.le_of_ble_eq_true rfl) ?_
      refine nd_iconst hC (v := nI 0) (by rfl) dX7_creasesFault_37 ?_
      refine nd_istore hC dX7_creasesFault_38 (Nat.le_of_ble_eq_true rfl) ?_
      exact L 0 (Nat.zero_le _) _ (fun q => ⟨of_decide_eq_true (hb ▸ q), fun j hj => absurd hj (Nat.not_lt_zero _)⟩) (fun q => by unfold ty_cr; rw [← hb, q]; rfl)
    have J1 : nd_W g mX7_creasesFault d 0 0 K X 28 [some (.ref 101), some (.int (nI t)), some (.int (nI (ty_f (nI t) S))), none, none] [.int (nI (sy_n S - 1)), .int (nI v.length)] h 0 0 := by
      first | with_reducible refine nd_icmp_neN hC (tgt := 35) (by omega) (by omega) dX7_creasesFault_28 (by decide) (fun hq => ?_) (fun hq => ?_) | refine nd_icmp_ne hC (tgt := 35) dX7_creasesFault_28 (by decide) (fun hq => ?_) (fun hq => ?_)
      · refine nd_iconst hC (v := nI 0) (by rfl) dX7_creasesFault_35 ?_
        exact J2 false (decide_eq_false (by omega)).symm
      · refine nd_iconst hC (v := nI 1) (by rfl) dX7_creasesFault_31 ?_
        refine nd_goto hC (tgt := 36) dX7_creasesFault_32 (by decide) ?_
        exact J2 true (decide_eq_true (by omega)).symm
    refine nd_aload_n hC dX7_creasesFault_12 rfl rfl ?_
    refine mo_get_tMany hC hw rfl dX7_creasesFault_13 ?_
    refine nd_iload_n hC dX7_creasesFault_16 rfl ?_
    refine nd_ialoadN hC hw.tMany (by omega) (by decide) dX7_creasesFault_17 ?_
    rw [hm]
    refine nd_iconst hC (v := nI 0) (by rfl) dX7_creasesFault_18 ?_
    refine nd_aload_n hC dX7_creasesFault_19 rfl rfl ?_
    refine mo_callV (As := []) (d2 := d - 1) hC hw rfl lkX7_253 lyX7_253 (Nat.le_of_ble_eq_true rfl) (by omega) rfl (by exact Nat.le_of_ble_eq_true rfl) (Nat.zero_le _) (Nat.zero_le _) dX7_creasesFault_20 rfl ((sp_cells hg hw ?_))
    rw [hI.n]
    by_cases h1 : 1 ≤ sy_n S
    · refine nd_iconst hC (v := nI 1) (by rfl) dX7_creasesFault_23 ?_
      first | with_reducible refine nd_isubN hC (by omega) dX7_creasesFault_24 ?_ | refine nd_isub hC dX7_creasesFault_24 ?_
      first | ((with_reducible refine nd_tst2 ?_); refine nd_mmaxN hC (by omega) (by omega) q3022 (by omega) (by omega) (by exact Nat.le_of_ble_eq_true rfl) dX7_creasesFault_25 ?_) | refine nd_mmax hC q3022 (by omega) (by omega) (by exact Nat.le_of_ble_eq_true rfl) dX7_creasesFault_25 ?_
      rw [show max 0 (sy_n S - 1) = sy_n S - 1 by omega]
      exact J1
    · have e0 : sy_n S = 0 := by omega
      rw [e0] at J1 ⊢
      refine nd_iconst hC (v := nI 1) (by rfl) dX7_creasesFault_23 ?_
      first | with_reducible refine nd_isubN hC (by omega) dX7_creasesFault_24 ?_ | refine nd_isub hC dX7_creasesFault_24 ?_
      first | ((with_reducible refine nd_tst2 ?_); refine nd_mmaxN hC (by omega) (by omega) q3022 (by omega) (by omega) (by exact Nat.le_of_ble_eq_true rfl) dX7_creasesFault_25 ?_) | refine nd_mmax hC q3022 (by omega) (by omega) (by exact Nat.le_of_ble_eq_true rfl) dX7_creasesFault_25 ?_
      exact J1
  · rw [if_neg (by omega)] at hk
    refine nd_iload_n hC dX7_creasesFault_10 rfl ?_
    refine nd_ireturn hC rfl (by first | rfl | exact nd_b_nar _) (by omega) (by omega) dX7_creasesFault_11 (hk)
theorem se_md_le (cond : lv_E → Bool) (s : Nat × Option (List Nat)) (x : lv_E) : (se_md cond s x).1.1 ≤ s.1 + 1 := by
  unfold se_md
  split
  · exact Nat.le_refl _
  · exact Nat.le_succ _
theorem md_B {cond : lv_E → Bool} {m : Nat} {l : List (List Nat)} (hm : m ≤ 5) (hl : l.length ≤ 6) : lv_B (se_md cond) (fun s => s.1 < 2 ^ 30) (0, none) (lv_all m l) := lv_B_n _ (fun s => s.1) _ (se_md_le cond) _ (0, none) (by have := lv_cntA_le m hm _ hl; rw [lv_all_length]; show 0 + _ ≤ _; omega)
theorem sp_askMade (hg : nd_OK g) (hd : 13 ≤ d) {tt t : Nat} {S : sy_S} {q : Nat × List Int64} (ht : tt ≤ 1000000) (hI : mo_I tt S A F B) (hS : sy_ok S) (hw : mo_W h0 A F B h) (htt : t < 4) (eq : sy_t S t = some q) (hcr : ty_cr (sy_n S) q.2 = true) (h33 : F 33 = nI t) (hl : mo_lk (A 19) 0 (lk_flat (sy_n S)))
    (hk : ∀ A2 F2 B2 h2, mo_I (tt + 1) S A2 F2 B2 → F2 4 = F 4 → F2 30 = nI (md_r (fun e => lk_made e.2 q.2) (lv_all 5 (lk_flat (sy_n S)))).1 → mo_kept (md_r (fun e => lk_made e.2 q.2) (lv_all 5 (lk_flat (sy_n S)))).2 A2 F2 → mo_W h0 A2 F2 B2 h2 → K (.inl none) h2) : nd_M g mX7_asksAll d 0 0 [.ref 101, .int (nI 11), .int (nI 0), .int (nI 5)] h K := by
  have hn : sy_n S ≤ 6 := hS.1.1.1
  have hok := lk_flat_ok (sy_n S)
  have hwd := lk_width hok
  have hvn : q.2.length = sy_n S - 1 := by
    unfold ty_cr at hcr
    rw [Bool.and_eq_true] at hcr
    exact of_decide_eq_true hcr.1
  exact sp_askS hg (d0 := 5) (0, none) hI hn (by omega) (by omega) (by omega) (fun d2 hd2 => se_made_ok hg hd2 hn (by omega) htt ((hI.2.2.1 t htt).2 q eq).2 hvn (show mo_F0 F 11 0 33 = nI t from h33)) (fun s A F B f q => ⟨q.1.up19 f, q.2.1, q.2.2.1, mo_kept_up q.2.2.2⟩) (fun s A F B f q => ⟨q.1.up25 f, q.2.1, q.2.2.1, mo_kept_up q.2.2.2⟩) (by omega) (by omega) hw hl hok ⟨⟨fun _ _ _ _ => rfl, fun _ _ => rfl, fun _ _ => rfl⟩, rfl, rfl, rfl, rfl⟩ (md_B (by omega) (by omega)) (fun A2 F2 B2 h2 hiv hI2 e4 _ _ hw => hk A2 F2 B2 h2 hI2 e4 hiv.2.2.1 hiv.2.2.2 hw)
theorem mp_made (hg : nd_OK g) (hd : 14 ≤ d) (x : Int32) : mp_ok g h0 mX7_made d [.int x] (mp_i (op_made x)) := by
  intro tt S A F B h K ht hI hS hw hk
  have hm3 := cr_f_le x S
  unfold mp_i op_made at hk
  refine nd_enter hg (by decide) rfl (Nat.le_of_ble_eq_true rfl) (fun X hC => ?_)
  refine nd_aload_n hC dX7_made_0 rfl rfl ?_
  refine nd_aload_n hC dX7_made_1 rfl rfl ?_
  refine nd_iload_n hC dX7_made_2 rfl ?_
  refine mo_callV (As := [_]) (d2 := d - 1) hC hw rfl lkX7_549 lyX7_549 (Nat.le_of_ble_eq_true rfl) (by omega) rfl (by exact Nat.le_of_ble_eq_true rfl) (Nat.zero_le _) (Nat.zero_le _) dX7_made_3 rfl ((sp_creasesFault hg (by omega) hI hS hw ?_))
  refine mo_put_thrown hC hw rfl dX7_made_6 (fun h hw => ?_)
  refine nd_aload_n hC dX7_made_9 rfl rfl ?_
  refine mo_get_thrown hC hw rfl dX7_made_10 ?_
  rw [va_up_s]
  by_cases h0c : cr_f x S = 0
  · rw [if_pos h0c] at hk
    obtain ⟨hf0, hcr⟩ := cr_f_0 h0c
    obtain ⟨t, q, htt, rfl, eq, ev⟩ := ty_f_0 hf0
    rw [ev] at hk hcr
    rw [h0c] at hw ⊢
    refine nd_if_le hC (tgt := 18) dX7_made_13 (by decide) (fun hq => ?_) (fun hq => ?_)
    · refine nd_aload_n hC dX7_made_18 rfl rfl ?_
      refine nd_iload_n hC dX7_made_19 rfl ?_
      refine mo_put_askedTray hC hw rfl dX7_made_20 (fun h hw => ?_)
      refine nd_aload_n hC dX7_made_23 rfl rfl ?_
      refine mo_callV (As := []) (d2 := d - 1) hC hw rfl lkX7_277 lyX7_277 (Nat.le_of_ble_eq_true rfl) (by omega) rfl (by exact Nat.le_of_ble_eq_true rfl) (Nat.zero_le _) (Nat.zero_le _) dX7_made_24 rfl ((sp_flat hg (by omega) (hI.th.uf (k := 33) rfl) hS hw ?_))
      intro A2 h2 hl kA hI2 hw
      refine nd_aload_n hC dX7_made_27 rfl rfl ?_
      refine nd_bipush hC (v := nI 11) (by rfl) dX7_made_28 ?_
      refine nd_iconst hC (v := nI 0) (by rfl) dX7_made_30 ?_
      refine nd_iconst hC (v := nI 5) (by rfl) dX7_made_31 ?_
      refine mo_callV (As := [_, _, _]) (d2 := d - 1) hC hw rfl lkX7_502 lyX7_502 (Nat.le_of_ble_eq_true rfl) (by omega) rfl (by exact Nat.le_of_ble_eq_true rfl) (Nat.zero_le _) (Nat.zero_le _) dX7_made_32 rfl ((sp_askMade hg (by omega) ht hI2 hS hw htt eq hcr rfl hl ?_))
      intro A3 F3 B3 h3 hI3 e4 e30 hkept hw
      refine nd_aload_n hC dX7_made_35 rfl rfl ?_
      refine mo_get_rowMany hC hw rfl dX7_made_36 ?_
      rw [e30]
      refine nd_ireturn hC rfl (by first | rfl | exact nd_b_nar _) (by omega) (by omega) dX7_made_39 ((hk _ _ _ _ (hI3.t (by omega)) (e4.trans rfl) hw))
    · exact absurd hq (by decide)
  · rw [if_neg h0c] at hk
    refine nd_if_le hC (tgt := 18) dX7_made_13 (by decide) (fun hq => ?_) (fun hq => ?_)
    · exact absurd hq (nI_gt0 (by omega) (by omega))
    · refine nd_iconst hC (v := nI 0) (by rfl) dX7_made_16 ?_
      refine nd_ireturn hC rfl (by first | rfl | exact nd_b_nar _) (by omega) (by omega) dX7_made_17 ((hk A _ B _ (hI.th.t (by omega)) (va_up_s _ _ _) hw))
theorem mp_madeBy (hg : nd_OK g) (hd : 14 ≤ d) (x y : Int32) : mp_ok g h0 mX7_madeBy d [.int x, .int y] (mp_i (op_madeBy x y)) := by
  intro tt S A F B h K ht hI hS hw hk
  have hm3 := cr_f_le x S
  unfold mp_i op_madeBy at hk
  refine nd_enter hg (by decide) rfl (Nat.le_of_ble_eq_true rfl) (fun X hC => ?_)
  refine nd_aload_n hC dX7_madeBy_0 rfl rfl ?_
  refine nd_aload_n hC dX7_madeBy_1 rfl rfl ?_
  refine nd_iload_n hC dX7_madeBy_2 rfl ?_
  refine mo_callV (As := [_]) (d2 := d - 1) hC hw rfl lkX7_549 lyX7_549 (Nat.le_of_ble_eq_true rfl) (by omega) rfl (by exact Nat.le_of_ble_eq_true rfl) (Nat.zero_le _) (Nat.zero_le _) dX7_madeBy_3 rfl ((sp_creasesFault hg (by omega) hI hS hw ?_))
  have JE : ∀ F1 h1, mo_W h0 A F1 B h1 → mo_I tt S A F1 B → ∀ e : Nat, F1 4 = nI e → 1 ≤ e → e ≤ 3 → (∀ A2 F2 B2 h2, mo_I (tt + 4) S A2 F2 B2 → F2 4 = nI e → mo_W h0 A2 F2 B2 h2 → K (.inl (some (.int (nI 0)))) h2) → nd_W g mX7_madeBy d 0 0 K X 25 [some (.ref 101), some (.int x), some (.int y)] [] h1 0 0 := by
    intro F1 h hw hI1 e eF e1 e3 hk
    refine nd_aload_n hC dX7_madeBy_25 rfl rfl ?_
    refine mo_get_thrown hC hw rfl dX7_madeBy_26 ?_
    rw [eF]
    refine nd_if_le hC (tgt := 34) dX7_madeBy_29 (by decide) (fun hq => ?_) (fun hq => ?_)
    · exact absurd hq (nI_gt0 e1 (by omega))
    · refine nd_iconst hC (v := nI 0) (by rfl) dX7_madeBy_32 ?_
      refine nd_ireturn hC rfl (by first | rfl | exact nd_b_nar _) (by omega) (by omega) dX7_madeBy_33 ((hk A F1 B h (hI1.t (by omega)) eF hw))
  refine mo_put_thrown hC hw rfl dX7_madeBy_6 (fun h hw => ?_)
  refine nd_aload_n hC dX7_madeBy_9 rfl rfl ?_
  refine mo_get_thrown hC hw rfl dX7_madeBy_10 ?_
  rw [va_up_s]
  first | with_reducible refine nd_if_neB hC (tgt := 25) dX7_madeBy_13 (by decide) (fun hc => ?_) (fun hc => ?_) | with_reducible refine nd_if_neN hC (tgt := 25) (by omega) dX7_madeBy_13 (by decide) (fun hc => ?_) (fun hc => ?_) | refine nd_if_ne hC (tgt := 25) dX7_madeBy_13 (by decide) (fun hc => ?_) (fun hc => ?_)
  · rw [if_neg (by omega)] at hk
    exact JE _ h hw hI.th (cr_f x S) (va_up_s _ _ _) (by omega) hm3 hk
  · have h0c : cr_f x S = 0 := by omega
    rw [if_pos h0c] at hk
    obtain ⟨hf0, hcr⟩ := cr_f_0 h0c
    obtain ⟨t, q, htt, rfl, eq, ev⟩ := ty_f_0 hf0
    rw [ev] at hk hcr
    rw [h0c] at hw
    refine nd_iload_n hC dX7_madeBy_16 rfl ?_
    refine nd_if_ge hC (tgt := 25) dX7_madeBy_17 (by decide) (fun hy => ?_) (fun hy => ?_)
    · rw [if_pos hy] at hk
      obtain ⟨k, hk1, rfl⟩ := op_nat hy
      rw [nI_cl hk1] at hk
      refine nd_aload_n hC dX7_madeBy_25 rfl rfl ?_
      refine mo_get_thrown hC hw rfl dX7_madeBy_26 ?_
      rw [va_up_s]
      refine nd_if_le hC (tgt := 34) dX7_madeBy_29 (by decide) (fun hq => ?_) (fun hq => ?_)
      · refine nd_aload_n hC dX7_madeBy_34 rfl rfl ?_
        refine nd_iload_n hC dX7_madeBy_35 rfl ?_
        refine mo_put_askedTray hC hw rfl dX7_madeBy_36 (fun h hw => ?_)
        refine nd_aload_n hC dX7_madeBy_39 rfl rfl ?_
        refine mo_callV (As := []) (d2 := d - 1) hC hw rfl lkX7_277 lyX7_277 (Nat.le_of_ble_eq_true rfl) (by omega) rfl (by exact Nat.le_of_ble_eq_true rfl) (Nat.zero_le _) (Nat.zero_le _) dX7_madeBy_40 rfl ((sp_flat hg (by omega) (hI.th.uf (k := 33) rfl) hS hw ?_))
        intro A2 h2 hl kA hI2 hw
        refine nd_aload_n hC dX7_madeBy_43 rfl rfl ?_
        refine nd_bipush hC (v := nI 11) (by rfl) dX7_madeBy_44 ?_
        refine nd_iconst hC (v := nI 0) (by rfl) dX7_madeBy_46 ?_
        refine nd_iconst hC (v := nI 5) (by rfl) dX7_madeBy_47 ?_
        refine mo_callV (As := [_, _, _]) (d2 := d - 1) hC hw rfl lkX7_502 lyX7_502 (Nat.le_of_ble_eq_true rfl) (by omega) rfl (by exact Nat.le_of_ble_eq_true rfl) (Nat.zero_le _) (Nat.zero_le _) dX7_madeBy_48 rfl ((sp_askMade hg (by omega) ht hI2 hS hw htt eq hcr rfl hl ?_))
        intro A3 F3 B3 h3 hI3 e4 e30 hkept hw
        generalize (md_r (fun e => lk_made e.2 q.2) (lv_all 5 (lk_flat (sy_n S)))).2 = R at *
        refine nd_iload_n hC dX7_madeBy_51 rfl ?_
        refine nd_aload_n hC dX7_madeBy_52 rfl rfl ?_
        refine mo_get_bestMany hC hw rfl dX7_madeBy_53 ?_
        cases R with
        | none =>
          rw [hkept.2]
          first | with_reducible refine nd_icmp_geN hC (tgt := 68) (by omega) (by omega) dX7_madeBy_56 (by decide) (fun hq => ?_) (fun hq => ?_) | refine nd_icmp_ge hC (tgt := 68) dX7_madeBy_56 (by decide) (fun hq => ?_) (fun hq => ?_)
          · refine nd_iconst hC (v := -1) (by rfl) dX7_madeBy_68 ?_
            refine nd_ireturn hC rfl (by first | rfl | exact nd_b_nar _) (by omega) (by omega) dX7_madeBy_69 ((hk _ _ _ _ (hI3.t (by omega)) (e4.trans rfl) hw))
          · omega
        | some r =>
          obtain ⟨hlen, e31, e32, hrow⟩ := hkept
          rw [e32]
          dsimp only at hk
          first | with_reducible refine nd_icmp_geN hC (tgt := 68) (by omega) (by omega) dX7_madeBy_56 (by decide) (fun hq => ?_) (fun hq => ?_) | refine nd_icmp_ge hC (tgt := 68) dX7_madeBy_56 (by decide) (fun hq => ?_) (fun hq => ?_)
          · rw [if_neg (by omega)] at hk
            refine nd_iconst hC (v := -1) (by rfl) dX7_madeBy_68 ?_
            refine nd_ireturn hC rfl (by first | rfl | exact nd_b_nar _) (by omega) (by omega) dX7_madeBy_69 ((hk _ _ _ _ (hI3.t (by omega)) (e4.trans rfl) hw))
          · rw [if_pos (by omega)] at hk
            refine nd_aload_n hC dX7_madeBy_59 rfl rfl ?_
            refine mo_get_bestRow hC hw rfl dX7_madeBy_60 ?_
            refine nd_iload_n hC dX7_madeBy_63 rfl ?_
            refine nd_ialoadN hC hw.bestRow (by omega) (by decide) dX7_madeBy_64 ?_
            rw [hrow k (by omega)]
            refine nd_goto hC (tgt := 69) dX7_madeBy_65 (by decide) ?_
            refine nd_ireturn hC rfl (by first | rfl | exact nd_b_nar _) (by omega) (by omega) dX7_madeBy_69 ((hk _ _ _ _ (hI3.t (by omega)) (e4.trans rfl) hw))
      · exact absurd hq (by decide)
    · rw [if_neg hy] at hk
      refine nd_aload_n hC dX7_madeBy_20 rfl rfl ?_
      refine nd_iconst hC (v := nI 3) (by rfl) dX7_madeBy_21 ?_
      refine mo_put_thrown hC hw rfl dX7_madeBy_22 (fun h hw => ?_)
      exact JE _ h hw hI.th.th 3 (va_up_s _ _ _) (by omega) (by omega) hk
end MO22

