set_option maxRecDepth 100000
section MO26
variable {g : nd_G} {d : Nat} {K : nd_K} {h h0 : nd_H} {A : Nat → Nat → Int32} {F : Nat → Int32} {B : Nat → Nat → Int64} {f : Nat → Int32}
theorem sp_keeps (hg : nd_OK g) {P : sy_P} (hP : sp_ok P) (hw : mo_W h0 A F B h) (hkn : mo_kn (A 0) P) (hk : ∀ f2 h2, mo_kn f2 (P.1, P.2.1, sv_keep P.2.2 P.2.1) → mo_W h0 (va_up A 0 f2) F B h2 → K (.inl none) h2) : nd_M g mX7_keeps d 0 0 [.ref 101] h K := by
  have hn := hP.1.1
  have h10 := hP.2.2.1
  have hmem : ∀ (ds : List sv) i, i < ds.length → ds.getD i ([], [], []) ∈ ds := fun ds i hi => by
    rw [List.getD_eq_getElem?_getD, List.getElem?_eq_getElem hi]; exact List.getElem_mem _
  refine nd_enter hg (by decide) rfl (Nat.le_of_ble_eq_true rfl) (fun X hC => ?_)
  have J : ∀ (f0 : Nat → Int32) (ds : List sv) (lv1 : Option Value) h1, ds.length ≤ 9 → (∀ s ∈ ds, sv_ok (nk_n P.1) s) → sv_keep P.2.2 P.2.1 = ds ++ [P.2.1] → mo_nap f0 P.1 → mo_sv f0 7 P.2.1 → f0 6 = nI ds.length → (∀ i, i < ds.length → mo_sv f0 (29 + 18 * i) (ds.getD i ([], [], []))) → mo_W h0 (va_up A 0 f0) F B h1 → nd_W g mX7_keeps d 0 0 K X 54 [some (.ref 101), lv1] [] h1 0 0 := by
    intro f0 ds lv1 h h9 hds hsk hnap hsv h6 hdd hw
    refine nd_iconst hC (v := nI 0) (by rfl) dX7_keeps_54 ?_
    refine nd_istore_n hC dX7_keeps_55 (Nat.le_of_ble_eq_true rfl) ?_
    have L : ∀ k, k ≤ 18 → ∀ f2 h2, (∀ i, i < 29 + 18 * ds.length → f2 i = f0 i) → (∀ i, 29 + 18 * ds.length + 18 ≤ i → f2 i = f0 i) → (∀ j, j < k → f2 (29 + 18 * ds.length + j) = f0 (7 + j)) → mo_W h0 (va_up A 0 f2) F B h2 → nd_W g mX7_keeps d 0 0 K X 56 [some (.ref 101), some (.int (nI k))] [] h2 0 0 := by
      refine nd_for _ _ ?_ ?_
      · intro f2 h e1 e2 e3 hw
        refine nd_iload_n hC dX7_keeps_56 rfl ?_
        refine nd_bipush hC (v := nI 18) (by rfl) dX7_keeps_57 ?_
        first | with_reducible refine nd_icmp_geN hC (tgt := 97) (by omega) (by omega) dX7_keeps_59 (by decide) (fun hc => ?_) (fun hc => ?_) | refine nd_icmp_ge hC (tgt := 97) dX7_keeps_59 (by decide) (fun hc => ?_) (fun hc => ?_)
        · refine nd_aload_n hC dX7_keeps_97 rfl rfl ?_
          refine mo_get_known hC hw rfl dX7_keeps_98 ?_
          refine nd_bipush hC (v := nI 6) (by rfl) dX7_keeps_101 ?_
          refine nd_dup2_11 hC (by rfl) (by rfl) dX7_keeps_103 ?_
          refine nd_ialoadN hC hw.known (by omega) (by decide) dX7_keeps_104 ?_
          rw [va_up_s, e1 6 (by omega), h6]
          refine nd_iconst hC (v := nI 1) (by rfl) dX7_keeps_105 ?_
          first | with_reducible refine nd_iaddN hC dX7_keeps_106 ?_ | refine nd_iadd hC dX7_keeps_106 ?_
          refine mo_ast_known hC hw (by omega) dX7_keeps_107 (fun h hw => ?_)
          try simp only [va_up_up, va_up_s] at hw
          have hf : mo_kn (upd f2 6 (nI (ds.length + 1))) (P.1, P.2.1, sv_keep P.2.2 P.2.1) := by
            rw [hsk]
            refine ⟨mo_nap_congr hP.1 hnap (fun i hi => ?_), mo_sv_mv hP.2.1 hn hsv (fun j hj => ?_), ?_, fun i hi => ?_⟩
            · rw [upd_n (by omega)]
              by_cases q : i < 29 + 18 * ds.length
              · exact e1 i q
              · exact e2 i (by omega)
            · rw [upd_n (by omega)]; exact e1 _ (by omega)
            · rw [upd_s]; simp
            · simp only [List.length_append, List.length_singleton] at hi
              by_cases q : i < ds.length
              · have e : (ds ++ [P.2.1]).getD i ([], [], []) = ds.getD i ([], [], []) := by simp [List.getD_eq_getElem?_getD, List.getElem?_append_left q]
                show mo_sv _ _ ((ds ++ [P.2.1]).getD i ([], [], []))
                rw [e]
                exact mo_sv_mv (hds _ (hmem ds i q)) hn (hdd i q) (fun j hj => by rw [upd_n (by omega)]; exact e1 _ (by omega))
              · have q2 : i = ds.length := by omega
                subst q2
                have e : (ds ++ [P.2.1]).getD ds.length ([], [], []) = P.2.1 := by simp [List.getD_eq_getElem?_getD]
                show mo_sv _ _ ((ds ++ [P.2.1]).getD ds.length ([], [], []))
                rw [e]
                exact mo_sv_mv hP.2.1 hn hsv (fun j hj => by rw [upd_n (by omega)]; exact e3 j hj)
          refine nd_return hC rfl (by omega) (by omega) dX7_keeps_108 ((hk _ h hf hw))
        · omega
      · intro k hk1 ih f2 h e1 e2 e3 hw
        refine nd_iload_n hC dX7_keeps_56 rfl ?_
        refine nd_bipush hC (v := nI 18) (by rfl) dX7_keeps_57 ?_
        first | with_reducible refine nd_icmp_geN hC (tgt := 97) (by omega) (by omega) dX7_keeps_59 (by decide) (fun hc => ?_) (fun hc => ?_) | refine nd_icmp_ge hC (tgt := 97) dX7_keeps_59 (by decide) (fun hc => ?_) (fun hc => ?_)
        · omega
        · refine nd_aload_n hC dX7_keeps_62 rfl rfl ?_
          refine mo_get_known hC hw rfl dX7_keeps_63 ?_
          refine nd_bipush hC (v := nI 29) (by rfl) dX7_keeps_66 ?_
          refine nd_bipush hC (v := nI 18) (by rfl) dX7_keeps_68 ?_
          refine nd_aload_n hC dX7_keeps_70 rfl rfl ?_
          refine mo_get_known hC hw rfl dX7_keeps_71 ?_
          refine nd_bipush hC (v := nI 6) (by rfl) dX7_keeps_74 ?_
          refine nd_ialoadN hC hw.known (by omega) (by decide) dX7_keeps_76 ?_
          rw [va_up_s, e1 6 (by omega), h6]
          first | with_reducible refine nd_imulN hC dX7_keeps_77 ?_ | refine nd_imul hC dX7_keeps_77 ?_
          first | with_reducible refine nd_iaddN hC dX7_keeps_78 ?_ | refine nd_iadd hC dX7_keeps_78 ?_
          refine nd_iload_n hC dX7_keeps_79 rfl ?_
          first | with_reducible refine nd_iaddN hC dX7_keeps_80 ?_ | refine nd_iadd hC dX7_keeps_80 ?_
          refine nd_aload_n hC dX7_keeps_81 rfl rfl ?_
          refine mo_get_known hC hw rfl dX7_keeps_82 ?_
          refine nd_bipush hC (v := nI 7) (by rfl) dX7_keeps_85 ?_
          refine nd_iload_n hC dX7_keeps_87 rfl ?_
          first | with_reducible refine nd_iaddN hC dX7_keeps_88 ?_ | refine nd_iadd hC dX7_keeps_88 ?_
          refine nd_ialoadN hC hw.known (by omega) (by decide) dX7_keeps_89 ?_
          refine mo_ast_known hC hw (by omega) dX7_keeps_90 (fun h hw => ?_)
          try simp only [va_up_up, va_up_s] at hw
          first | with_reducible refine nd_iincN hC dX7_keeps_91 rfl (Nat.le_of_ble_eq_true rfl) ?_ | refine nd_iinc hC dX7_keeps_91 rfl rfl (Nat.le_of_ble_eq_true rfl) ?_
          refine nd_goto hC (tgt := 56) dX7_keeps_94 (by decide) ?_
          refine ih _ h (fun i hi => ?_) (fun i hi => ?_) (fun j hj => ?_) hw
          · rw [upd_n (by omega)]; exact e1 i hi
          · rw [upd_n (by omega)]; exact e2 i hi
          · by_cases e : j = k
            · subst e; rw [upd_s]; exact e1 _ (by omega)
            · rw [upd_n (by omega)]; exact e3 j (by omega)
    exact L 0 (Nat.zero_le _) f0 h (fun _ _ => rfl) (fun _ _ => rfl) (fun j hj => absurd hj (Nat.not_lt_zero _)) hw
  refine nd_aload_n hC dX7_keeps_0 rfl rfl ?_
  refine mo_get_known hC hw rfl dX7_keeps_1 ?_
  refine nd_bipush hC (v := nI 6) (by rfl) dX7_keeps_4 ?_
  refine nd_ialoadN hC hw.known (by omega) (by decide) dX7_keeps_6 ?_
  rw [hkn.2.2.1]
  refine nd_bipush hC (v := nI 10) (by rfl) dX7_keeps_7 ?_
  first | with_reducible refine nd_icmp_neN hC (tgt := 54) (by omega) (by omega) dX7_keeps_9 (by decide) (fun hc => ?_) (fun hc => ?_) | refine nd_icmp_ne hC (tgt := 54) dX7_keeps_9 (by decide) (fun hc => ?_) (fun hc => ?_)
  · exact J (A 0) P.2.2 _ h (by omega) hP.2.2.2 (by unfold sv_keep; rw [if_neg hc]) hkn.1 hkn.2.1 hkn.2.2.1 hkn.2.2.2 (by rw [va_up_id]; exact hw)
  · refine nd_bipush hC (v := nI 29) (by rfl) dX7_keeps_12 ?_
    refine nd_istore_n hC dX7_keeps_14 (Nat.le_of_ble_eq_true rfl) ?_
    have L : ∀ j, j ≤ 162 → ∀ f2 h2, (∀ i, i < 29 → f2 i = A 0 i) → (∀ i, i < j → f2 (29 + i) = A 0 (29 + i + 18)) → (∀ i, 29 + j ≤ i → f2 i = A 0 i) → mo_W h0 (va_up A 0 f2) F B h2 → nd_W g mX7_keeps d 0 0 K X 15 [some (.ref 101), some (.int (nI (29 + j)))] [] h2 0 0 := by
      refine nd_for _ _ ?_ ?_
      · intro f2 h e1 e2 e3 hw
        refine nd_iload_n hC dX7_keeps_15 rfl ?_
        refine nd_sipush hC (v := nI 191) (by rfl) dX7_keeps_16 ?_
        first | with_reducible refine nd_icmp_geN hC (tgt := 43) (by omega) (by omega) dX7_keeps_19 (by decide) (fun hq => ?_) (fun hq => ?_) | refine nd_icmp_ge hC (tgt := 43) dX7_keeps_19 (by decide) (fun hq => ?_) (fun hq => ?_)
        · refine nd_aload_n hC dX7_keeps_43 rfl rfl ?_
          refine mo_get_known hC hw rfl dX7_keeps_44 ?_
          refine nd_bipush hC (v := nI 6) (by rfl) dX7_keeps_47 ?_
          refine nd_dup2_11 hC (by rfl) (by rfl) dX7_keeps_49 ?_
          refine nd_ialoadN hC hw.known (by omega) (by decide) dX7_keeps_50 ?_
          rw [va_up_s, e1 6 (by omega), hkn.2.2.1, hc]
          refine nd_iconst hC (v := nI 1) (by rfl) dX7_keeps_51 ?_
          first | with_reducible refine nd_isubN hC (by omega) dX7_keeps_52 ?_ | refine nd_isub hC dX7_keeps_52 ?_
          refine mo_ast_known hC hw (by omega) dX7_keeps_53 (fun h hw => ?_)
          try simp only [va_up_up, va_up_s] at hw
          have hlt : P.2.2.tail.length = 9 := by rw [List.length_tail, hc]
          refine J _ P.2.2.tail _ h (by omega) (fun s hs => hP.2.2.2 s (List.mem_of_mem_tail hs)) (by unfold sv_keep; rw [if_pos hc]) (mo_nap_congr hP.1 hkn.1 (fun i hi => ?_)) (mo_sv_mv hP.2.1 hn hkn.2.1 (fun j hj => ?_)) (by rw [upd_s, hlt]) (fun i hi => ?_) hw
          · rw [upd_n (by omega)]
            by_cases q : i < 29
            · exact e1 i q
            · exact e3 i (by omega)
          · rw [upd_n (by omega)]; exact e1 _ (by omega)
          · have e : P.2.2.tail.getD i ([], [], []) = P.2.2.getD (i + 1) ([], [], []) := by simp [List.getD_eq_getElem?_getD]
            rw [e]
            refine mo_sv_mv (n := nk_n P.1) (hP.2.2.2 _ (hmem _ _ (by omega))) hn (hkn.2.2.2 (i + 1) (by omega)) (fun j hj => ?_)
            rw [upd_n (by omega), Nat.add_assoc, e2 (18 * i + j) (by omega)]
            exact congrArg (A 0) (by omega)
        · omega
      · intro j hj1 ih f2 h e1 e2 e3 hw
        refine nd_iload_n hC dX7_keeps_15 rfl ?_
        refine nd_sipush hC (v := nI 191) (by rfl) dX7_keeps_16 ?_
        first | with_reducible refine nd_icmp_geN hC (tgt := 43) (by omega) (by omega) dX7_keeps_19 (by decide) (fun hq => ?_) (fun hq => ?_) | refine nd_icmp_ge hC (tgt := 43) dX7_keeps_19 (by decide) (fun hq => ?_) (fun hq => ?_)
        · omega
        · refine nd_aload_n hC dX7_keeps_22 rfl rfl ?_
          refine mo_get_known hC hw rfl dX7_keeps_23 ?_
          refine nd_iload_n hC dX7_keeps_26 rfl ?_
          refine nd_aload_n hC dX7_keeps_27 rfl rfl ?_
          refine mo_get_known hC hw rfl dX7_keeps_28 ?_
          refine nd_iload_n hC dX7_keeps_31 rfl ?_
          refine nd_bipush hC (v := nI 18) (by rfl) dX7_keeps_32 ?_
          first | with_reducible refine nd_iaddN hC dX7_keeps_34 ?_ | refine nd_iadd hC dX7_keeps_34 ?_
          refine nd_ialoadN hC hw.known (by omega) (by decide) dX7_keeps_35 ?_
          refine mo_ast_known hC hw (by omega) dX7_keeps_36 (fun h hw => ?_)
          try simp only [va_up_up, va_up_s] at hw
          first | with_reducible refine nd_iincN hC dX7_keeps_37 rfl (Nat.le_of_ble_eq_true rfl) ?_ | refine nd_iinc hC dX7_keeps_37 rfl rfl (Nat.le_of_ble_eq_true rfl) ?_
          refine nd_goto hC (tgt := 15) dX7_keeps_40 (by decide) ?_
          refine ih _ h (fun i hi => ?_) (fun i hi => ?_) (fun i hi => ?_) hw
          · rw [upd_n (by omega)]; exact e1 i hi
          · by_cases e : i = j
            · subst e; rw [upd_s]; exact e3 _ (by omega)
            · rw [upd_n (by omega)]; exact e2 i (by omega)
          · rw [upd_n (by omega)]; exact e3 i (by omega)
    exact L 0 (Nat.zero_le _) (A 0) h (fun _ _ => rfl) (fun i hi => absurd hi (Nat.not_lt_zero _)) (fun _ _ => rfl) (by rw [va_up_id]; exact hw)
end MO26

