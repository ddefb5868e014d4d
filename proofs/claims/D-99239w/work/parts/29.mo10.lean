set_option maxRecDepth 100000
/-- the fields as 'asksAll' sets them -/
def mo_F0 (F : Nat → Int32) (what fm : Nat) : Nat → Int32 := va_up (va_up (va_up (va_up (va_up (va_up F 28 (nI what)) 29 (nI fm)) 30 (nI 0)) 31 (if what = 3 ∨ what = 6 ∨ what = 8 then (-536870912) else (-1))) 32 (nI 0)) 37 (F 37 + nI 1)
section MO10
variable {g : nd_G} {K : nd_K} {h h0 : nd_H} {A : Nat → Nat → Int32} {F : Nat → Int32} {B : Nat → Nat → Int64} {f : Nat → Int32}
theorem sp_asksAll (hg : nd_OK g) {n fm d0 d what most : Nat} {l : List (List Nat)} {σ : Type} {see : σ → lv_E → σ × Bool} {Bd : σ → Prop} {Iv : σ → (Nat → Nat → Int32) → (Nat → Int32) → (Nat → Nat → Int64) → Prop} (s0 : σ) (hn : n ≤ 6) (hfm : fm ≤ 5) (hd0 : 3 ≤ d0) (hd : d0 + 8 ≤ d) (hS : ∀ d, d0 ≤ d → mo_see g h0 d n fm σ see Bd Iv)
    (hI : ∀ s A F B f, Iv s A F B → Iv s (va_up A 19 f) F B) (hI2 : ∀ s A F B f, Iv s A F B → Iv s (va_up A 25 f) F B) (hwh : what ≤ 13) (hm : most ≤ 5) (hw : mo_W h0 A F B h) (hl : mo_lk (A 19) fm l) (hok : lk_ok n l) (hI0 : Iv s0 A (mo_F0 F what fm) B) (hB : lv_B see Bd s0 (lv_all most l))
    (hk : ∀ A2 F2 B2 h2, Iv (lv_go see s0 (lv_all most l)).1 A2 F2 B2 → mo_gx fm fm A A2 (mo_F0 F what fm) F2 B B2 → mo_W h0 A2 F2 B2 h2 → K (.inl none) h2) : nd_M g mX7_asksAll d 0 0 [.ref 101, .int (nI what), .int (nI fm), .int (nI most)] h K := by
  rw [lv_from_0] at hk hB
  refine nd_enter hg (by decide) rfl (Nat.le_of_ble_eq_true rfl) (fun X hC => ?_)
  refine nd_aload_n hC dX7_asksAll_0 rfl rfl ?_
  refine nd_iload_n hC dX7_asksAll_1 rfl ?_
  refine mo_put_askedWhat hC hw rfl dX7_asksAll_2 (fun h hw => ?_)
  refine nd_aload_n hC dX7_asksAll_5 rfl rfl ?_
  refine nd_iload_n hC dX7_asksAll_6 rfl ?_
  refine mo_put_from hC hw rfl dX7_asksAll_7 (fun h hw => ?_)
  refine nd_aload_n hC dX7_asksAll_10 rfl rfl ?_
  refine nd_iconst hC (v := nI 0) (by rfl) dX7_asksAll_11 ?_
  refine mo_put_rowMany hC hw rfl dX7_asksAll_12 (fun h hw => ?_)
  refine nd_aload_n hC dX7_asksAll_15 rfl rfl ?_
  refine nd_iload_n hC dX7_asksAll_16 rfl ?_
  refine nd_iconst hC (v := nI 3) (by rfl) dX7_asksAll_17 ?_
  have J : ∀ (F1 : Nat → Int32) h1 (rb : Int32), F1 = va_up (va_up (va_up F 28 (nI what)) 29 (nI fm)) 30 (nI 0) → rb = (if what = 3 ∨ what = 6 ∨ what = 8 then (-536870912) else (-1)) → mo_W h0 A F1 B h1 → nd_W g mX7_asksAll d 0 0 K X 40 [some (.ref 101), some (.int (nI what)), some (.int (nI fm)), some (.int (nI most)), none] [.int rb, .ref 101] h1 0 0 := by
    intro F1 h rb hF1 hrb hw
    refine mo_put_rowBest hC hw rfl dX7_asksAll_40 (fun h hw => ?_)
    refine nd_aload_n hC dX7_asksAll_43 rfl rfl ?_
    refine nd_iconst hC (v := nI 0) (by rfl) dX7_asksAll_44 ?_
    refine mo_put_bestMany hC hw rfl dX7_asksAll_45 (fun h hw => ?_)
    refine nd_aload_n hC dX7_asksAll_48 rfl rfl ?_
    refine nd_dup hC (by rfl) dX7_asksAll_49 ?_
    refine mo_get_turn hC hw rfl dX7_asksAll_50 ?_
    refine nd_iconst hC (v := nI 1) (by rfl) dX7_asksAll_53 ?_
    first | with_reducible refine nd_iaddN hC dX7_asksAll_54 ?_ | refine nd_iadd hC dX7_asksAll_54 ?_
    refine mo_put_turn hC hw rfl dX7_asksAll_55 (fun h hw => ?_)
    refine nd_iconst hC (v := nI 0) (by rfl) dX7_asksAll_58 ?_
    refine nd_istore hC dX7_asksAll_59 (Nat.le_of_ble_eq_true rfl) ?_
    have eF : va_up (va_up (va_up F1 31 rb) 32 (nI 0)) 37 (va_up (va_up F1 31 rb) 32 (nI 0) 37 + nI 1) = mo_F0 F what fm := by
      unfold mo_F0; rw [hF1, hrb]; rfl
    rw [eF] at hw
    have hFF : (mo_F0 F what fm) 29 = nI fm := rfl
    have L : ∀ k, k ≤ most + 1 → ∀ (s2 : σ) A2 F2 B2 h2, lv_B see Bd s2 (lv_from most l k) → Iv s2 A2 F2 B2 → mo_gx fm fm A A2 (mo_F0 F what fm) F2 B B2 → mo_W h0 A2 F2 B2 h2 → lv_go see s2 (lv_from most l k) = lv_go see s0 (lv_from most l 0) → nd_W g mX7_asksAll d 0 0 K X 61 [some (.ref 101), some (.int (nI what)), some (.int (nI fm)), some (.int (nI most)), some (.int (nI k))] [] h2 0 0 := by
      refine nd_for (most + 1) _ ?_ ?_
      · intro s2 A2 F2 B2 h hB2 hIv hgx hw he
        rw [lv_from_e] at he
        rw [← he] at hk
        refine nd_iload hC dX7_asksAll_61 rfl ?_
        refine nd_iload_n hC dX7_asksAll_63 rfl ?_
        first | with_reducible refine nd_icmp_gtN hC (tgt := 84) (by omega) (by omega) dX7_asksAll_64 (by decide) (fun hc => ?_) (fun hc => ?_) | refine nd_icmp_gt hC (tgt := 84) dX7_asksAll_64 (by decide) (fun hc => ?_) (fun hc => ?_)
        · refine nd_return hC rfl (by omega) (by omega) dX7_asksAll_84 ((hk A2 F2 B2 h hIv hgx hw))
        · omega
      · intro k hk1 ih s2 A2 F2 B2 h hB2 hIv hgx hw he
        rw [lv_from_s most l (by omega), lv_go_app] at he
        rw [lv_from_s most l (by omega)] at hB2
        have hB3 := lv_B_app see Bd _ _ s2 hB2
        have e9 : (lv_lev k l).map (fun q => (([] : List Nat) ++ q.1, q.2)) = lv_lev k l := by simp
        have hl2 : mo_lk (A2 19) fm l := mo_lk_row hl hok hn hgx.2.2.2.1
        have hF2 : F2 29 = nI fm := by rw [hgx.2.1 29 (by decide)]; exact hFF
        refine nd_iload hC dX7_asksAll_61 rfl ?_
        refine nd_iload_n hC dX7_asksAll_63 rfl ?_
        first | with_reducible refine nd_icmp_gtN hC (tgt := 84) (by omega) (by omega) dX7_asksAll_64 (by decide) (fun hc => ?_) (fun hc => ?_) | refine nd_icmp_gt hC (tgt := 84) dX7_asksAll_64 (by decide) (fun hc => ?_) (fun hc => ?_)
        · omega
        refine nd_aload_n hC dX7_asksAll_67 rfl rfl ?_
        refine nd_iload_n hC dX7_asksAll_68 rfl ?_
        refine nd_iload hC dX7_asksAll_69 rfl ?_
        refine mo_callV (As := [_, _]) (d2 := d - 1) hC hw rfl lkX7_422 lyX7_422 (Nat.le_of_ble_eq_true rfl) (by omega) rfl (by exact Nat.le_of_ble_eq_true rfl) (Nat.zero_le _) (Nat.zero_le _) dX7_asksAll_71 rfl ((sp_goes hg hn hfm hd0 hS hI hI2 k (d - 1) s2 [] l A2 F2 B2 h _ (by omega) (by rw [e9]; exact hB3.1) hIv hw hl2 hok (fun i hi => by simp at hi) hF2 (by simp; omega) ?_))
        intro A3 F3 B3 h hIv3 hgx3 hw
        rw [e9] at hIv3 ⊢
        have hgx4 := hgx.trans hgx3
        generalize lv_go see s2 (lv_lev k l) = G at *
        first | with_reducible refine nd_if_eqB hC (tgt := 78) dX7_asksAll_74 (by decide) (fun hc => ?_) (fun hc => ?_) | with_reducible refine nd_if_eqN hC (tgt := 78) (by omega) dX7_asksAll_74 (by decide) (fun hc => ?_) (fun hc => ?_) | refine nd_if_eq hC (tgt := 78) dX7_asksAll_74 (by decide) (fun hc => ?_) (fun hc => ?_)
        · rw [if_neg (by rw [hc]; decide)] at he
          first | with_reducible refine nd_iincN hC dX7_asksAll_78 rfl (Nat.le_of_ble_eq_true rfl) ?_ | refine nd_iinc hC dX7_asksAll_78 rfl rfl (Nat.le_of_ble_eq_true rfl) ?_
          refine nd_goto hC (tgt := 61) dX7_asksAll_81 (by decide) ?_
          exact ih G.1 A3 F3 B3 h (hB3.2 hc) hIv3 hgx4 hw he
        · rw [if_pos hc] at he
          rw [← he] at hk
          refine nd_return hC rfl (by omega) (by omega) dX7_asksAll_77 ((hk A3 F3 B3 h hIv3 hgx4 hw))
    exact L 0 (Nat.zero_le _) s0 A _ B h hB hI0 mo_gx.rfl hw rfl
  first | with_reducible refine nd_icmp_eqN hC (tgt := 33) (by omega) (by omega) dX7_asksAll_18 (by decide) (fun hc => ?_) (fun hc => ?_) | refine nd_icmp_eq hC (tgt := 33) dX7_asksAll_18 (by decide) (fun hc => ?_) (fun hc => ?_)
  · refine nd_ldcwI hC q3318 dX7_asksAll_33 ?_
    refine nd_goto hC (tgt := 40) dX7_asksAll_36 (by decide) ?_
    exact J _ h _ rfl (by rw [if_pos (by omega)]) hw
  · refine nd_iload_n hC dX7_asksAll_21 rfl ?_
    refine nd_bipush hC (v := nI 6) (by rfl) dX7_asksAll_22 ?_
    first | with_reducible refine nd_icmp_eqN hC (tgt := 33) (by omega) (by omega) dX7_asksAll_24 (by decide) (fun hc => ?_) (fun hc => ?_) | refine nd_icmp_eq hC (tgt := 33) dX7_asksAll_24 (by decide) (fun hc => ?_) (fun hc => ?_)
    · refine nd_ldcwI hC q3318 dX7_asksAll_33 ?_
      refine nd_goto hC (tgt := 40) dX7_asksAll_36 (by decide) ?_
      exact J _ h _ rfl (by rw [if_pos (by omega)]) hw
    · refine nd_iload_n hC dX7_asksAll_27 rfl ?_
      refine nd_bipush hC (v := nI 8) (by rfl) dX7_asksAll_28 ?_
      first | with_reducible refine nd_icmp_neN hC (tgt := 39) (by omega) (by omega) dX7_asksAll_30 (by decide) (fun hc => ?_) (fun hc => ?_) | refine nd_icmp_ne hC (tgt := 39) dX7_asksAll_30 (by decide) (fun hc => ?_) (fun hc => ?_)
      · refine nd_iconst hC (v := -1) (by rfl) dX7_asksAll_39 ?_
        exact J _ h _ rfl (by rw [if_neg (by omega)]) hw
      · refine nd_ldcwI hC q3318 dX7_asksAll_33 ?_
        refine nd_goto hC (tgt := 40) dX7_asksAll_36 (by decide) ?_
        exact J _ h _ rfl (by rw [if_pos (by omega)]) hw
end MO10

