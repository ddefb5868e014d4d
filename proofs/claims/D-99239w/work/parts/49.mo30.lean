set_option maxRecDepth 100000
/-! ===== deeds done ===== -/
abbrev sy_st (S : sy_S) (s : sv) : sy_S := sy_set S (sy_N S, s, sy_d S)
/-- kept and done -/
abbrev sy_dd (S : sy_S) (z : Int) : sy_S := sy_st (sy_set S (sy_kp S)) (dd_do (sy_c S) z)
theorem mo_kn_st {k k2 : Nat → Int32} {P : sy_P} {s : sv} (hP : sp_ok P) (h : mo_kn k P) (e : ∀ i, (i < 7 ∨ 25 ≤ i) → k2 i = k i) (hs : mo_sv k2 7 s) : mo_kn k2 (P.1, s, P.2.2) := by
  have hn := hP.1.1
  refine ⟨mo_nap_congr hP.1 h.1 (fun i hi => e i (by omega)), hs, (e 6 (by omega)).trans h.2.2.1, fun i hi => ?_⟩
  refine mo_sv_mv (n := nk_n P.1) ?_ hn (h.2.2.2 i hi) (fun j hj => e _ (by omega))
  have : P.2.2.getD i ([], [], []) ∈ P.2.2 := by
    rw [List.getD_eq_getElem?_getD, List.getElem?_eq_getElem hi]; exact List.getElem_mem _
  exact hP.2.2.2 _ this
theorem dd_why_0 {P : sy_P} {z : Int} (h : dd_why P z = 0) : z = -1 ∨ (0 ≤ z ∧ z ≤ 99 ∧ 1 ≤ z / 10 ∧ z / 10 < (lk_run (lk_flat (nk_n P.1)) P.2.1.1).length ∧ z % 10 ≤ 3) ∨ ((z = 100 ∨ z = 200) ∧ P.2.1.1.length ≠ 0) ∨ (((1000 ≤ z ∧ z ≤ 1599) ∨ (2000 ≤ z ∧ z ≤ 2599)) ∧ z % 1000 / 100 < nk_n P.1) := by
  unfold dd_why at h
  by_cases c1 : z = -1
  · exact Or.inl c1
  rw [if_neg c1] at h
  by_cases c2 : 0 ≤ z ∧ z ≤ 99
  · rw [if_pos c2] at h
    by_cases c3 : 1 ≤ z / 10 ∧ z / 10 < (lk_run (lk_flat (nk_n P.1)) P.2.1.1).length ∧ z % 10 ≤ 3
    · exact Or.inr (Or.inl ⟨c2.1, c2.2, c3⟩)
    · rw [if_neg c3] at h; exact absurd h (by decide)
  rw [if_neg c2] at h
  by_cases c3 : z = 100 ∨ z = 200
  · rw [if_pos c3] at h
    by_cases c4 : P.2.1.1.length = 0
    · rw [if_pos c4] at h; exact absurd h (by decide)
    · exact Or.inr (Or.inr (Or.inl ⟨c3, c4⟩))
  rw [if_neg c3] at h
  by_cases c4 : (1000 ≤ z ∧ z ≤ 1599) ∨ (2000 ≤ z ∧ z ≤ 2599)
  · rw [if_pos c4] at h
    by_cases c5 : z % 1000 / 100 < nk_n P.1
    · exact Or.inr (Or.inr (Or.inr ⟨c4, c5⟩))
    · rw [if_neg c5] at h; exact absurd h (by decide)
  · rw [if_neg c4] at h; exact absurd h (by decide)
theorem sv_getD_app {xs : List Nat} {z i : Nat} : (xs ++ [z]).getD i 0 = if i = xs.length then z else xs.getD i 0 := by
  by_cases e : i = xs.length
  · subst e; rw [if_pos rfl]; simp [List.getD_eq_getElem?_getD]
  · rw [if_neg e]
    by_cases q : i < xs.length
    · simp [List.getD_eq_getElem?_getD, List.getElem?_append_left q]
    · rw [List.getD_eq_getElem?_getD, List.getD_eq_getElem?_getD, List.getElem?_eq_none (by simp; omega), List.getElem?_eq_none (by omega)]
theorem sv_getD_set {xs : List Nat} {i v c : Nat} (hc : c < xs.length) : (xs.set i v).getD c 0 = if c = i then v else xs.getD c 0 := by
  rw [List.getD_eq_getElem?_getD, List.getElem?_set]
  by_cases e : i = c
  · rw [if_pos e, if_pos e.symm, if_pos (by omega)]; rfl
  · rw [if_neg e, if_neg (fun q => e q.symm), ← List.getD_eq_getElem?_getD]
theorem sv_getD_dl {xs : List Nat} {i : Nat} (hi : i < xs.dropLast.length) : xs.dropLast.getD i 0 = xs.getD i 0 := by
  rw [List.getD_eq_getElem?_getD, List.getD_eq_getElem?_getD, List.getElem?_dropLast]
  rw [List.length_dropLast] at hi
  rw [if_pos hi]
theorem mo_sv_fold {k : Nat → Int32} {s : sv} {z : Nat} (h : mo_sv k 7 s) (h4 : s.1.length ≤ 4) (h1 : s.2.1.length ≤ 6) (h2 : s.2.2.length ≤ 6) : mo_sv (upd (upd k (8 + s.1.length) (nI z)) 7 (nI (s.1.length + 1))) 7 (s.1 ++ [z], s.2.1, s.2.2) := by
  refine ⟨by rw [upd_s]; simp, fun i hi => ?_, fun c hc => ?_, fun c hc => ?_⟩
  · rw [sv_getD_app]
    simp only [List.length_append, List.length_singleton] at hi
    rw [upd_n (by omega)]
    by_cases e : i = s.1.length
    · rw [if_pos e, e, upd_s]
    · rw [if_neg e, upd_n (by omega)]; exact h.2.1 i (by omega)
  · rw [upd_n (by omega), upd_n (by omega)]; exact h.2.2.1 c hc
  · rw [upd_n (by omega), upd_n (by omega)]; exact h.2.2.2 c hc
theorem mo_sv_less {k : Nat → Int32} {s : sv} {fs : List Nat} (h : mo_sv k 7 s) (he : ∀ i, i < fs.length → fs.getD i 0 = s.1.getD i 0) (hl : fs.length ≤ s.1.length) : mo_sv (upd k 7 (nI fs.length)) 7 (fs, s.2.1, s.2.2) := by
  refine ⟨upd_s .., fun i hi => ?_, fun c hc => ?_, fun c hc => ?_⟩
  · rw [upd_n (by omega)]; show _ = nI (fs.getD i 0); rw [he i hi]; exact h.2.1 i (Nat.lt_of_lt_of_le hi hl)
  · rw [upd_n (by omega)]; exact h.2.2.1 c hc
  · rw [upd_n (by omega)]; exact h.2.2.2 c hc
theorem mo_sv_fr {k : Nat → Int32} {s : sv} {c v : Nat} (h : mo_sv k 7 s) (h5 : s.1.length ≤ 5) (h1 : s.2.1.length ≤ 6) (h2 : s.2.2.length ≤ 6) (hc : c < s.2.1.length) : mo_sv (upd k (13 + c) (nI v)) 7 (s.1, s.2.1.set c v, s.2.2) := by
  refine ⟨by rw [upd_n (by omega)]; exact h.1, fun i hi => ?_, fun e he => ?_, fun e he => ?_⟩
  · have : i < s.1.length := hi
    rw [upd_n (by omega)]; exact h.2.1 i hi
  · have he : e < (s.2.1.set c v).length := he
    rw [List.length_set] at he
    show _ = nI ((s.2.1.set c v).getD e 0)
    rw [sv_getD_set he]
    by_cases q : e = c
    · rw [if_pos q, q, upd_s]
    · rw [if_neg q, upd_n (by omega)]; exact h.2.2.1 e he
  · have : e < s.2.2.length := he
    rw [upd_n (by omega)]; exact h.2.2.2 e he
theorem mo_sv_bk {k : Nat → Int32} {s : sv} {c v : Nat} (h : mo_sv k 7 s) (h5 : s.1.length ≤ 5) (h1 : s.2.1.length ≤ 6) (h2 : s.2.2.length ≤ 6) (hc : c < s.2.2.length) : mo_sv (upd k (19 + c) (nI v)) 7 (s.1, s.2.1, s.2.2.set c v) := by
  refine ⟨by rw [upd_n (by omega)]; exact h.1, fun i hi => ?_, fun e he => ?_, fun e he => ?_⟩
  · have : i < s.1.length := hi
    rw [upd_n (by omega)]; exact h.2.1 i hi
  · have : e < s.2.1.length := he
    rw [upd_n (by omega)]; exact h.2.2.1 e he
  · have he : e < (s.2.2.set c v).length := he
    rw [List.length_set] at he
    show _ = nI ((s.2.2.set c v).getD e 0)
    rw [sv_getD_set he]
    by_cases q : e = c
    · rw [if_pos q, q, upd_s]
    · rw [if_neg q, upd_n (by omega)]; exact h.2.2.2 e he
section MO30
variable {g : nd_G} {d : Nat} {K : nd_K} {h h0 : nd_H} {A : Nat → Nat → Int32} {F : Nat → Int32} {B : Nat → Nat → Int64} {f : Nat → Int32}
theorem mo_I.st {tt : Nat} {S : sy_S} {s : sv} (hI : mo_I tt S A F B) (hS : sy_ok S) (e : ∀ i, (i < 7 ∨ 25 ≤ i) → f i = A 0 i) (hs : mo_sv f 7 s) : mo_I tt (sy_st S s) (va_up A 0 f) F B := hI.kn (mo_kn_st hS.1 hI.1 e hs)
theorem sp_addsFold (hg : nd_OK g) (hw : mo_W h0 A F B h) {n : Nat} {v : Int32} (e7 : A 0 7 = nI n) (hn : n ≤ 4) (hk : ∀ h2, mo_W h0 (va_up A 0 (upd (upd (A 0) (8 + n) v) 7 (nI (n + 1)))) F B h2 → K (.inl none) h2) : nd_M g mX7_addsFold d 0 0 [.ref 101, .int v] h K := by
  have e72 : (upd (A 0) (8 + n) v) 7 = nI n := by rw [upd_n (by omega)]; exact e7
  refine nd_enter hg (by decide) rfl (Nat.le_of_ble_eq_true rfl) (fun X hC => ?_)
  refine nd_aload_n hC dX7_addsFold_0 rfl rfl ?_
  refine mo_get_known hC hw rfl dX7_addsFold_1 ?_
  refine nd_bipush hC (v := nI 8) (by rfl) dX7_addsFold_4 ?_
  refine nd_aload_n hC dX7_addsFold_6 rfl rfl ?_
  refine mo_get_known hC hw rfl dX7_addsFold_7 ?_
  refine nd_bipush hC (v := nI 7) (by rfl) dX7_addsFold_10 ?_
  refine nd_ialoadN hC hw.known (by omega) (by decide) dX7_addsFold_12 ?_
  rw [e7]
  first | with_reducible refine nd_iaddN hC dX7_addsFold_13 ?_ | refine nd_iadd hC dX7_addsFold_13 ?_
  refine nd_iload_n hC dX7_addsFold_14 rfl ?_
  refine mo_ast_known hC hw (by omega) dX7_addsFold_15 (fun h hw => ?_)
  try simp only [va_up_up, va_up_s] at hw
  refine nd_aload_n hC dX7_addsFold_16 rfl rfl ?_
  refine mo_get_known hC hw rfl dX7_addsFold_17 ?_
  refine nd_bipush hC (v := nI 7) (by rfl) dX7_addsFold_20 ?_
  refine nd_dup2_11 hC (by rfl) (by rfl) dX7_addsFold_22 ?_
  refine nd_ialoadN hC hw.known (by omega) (by decide) dX7_addsFold_23 ?_
  rw [va_up_s, e72]
  refine nd_iconst hC (v := nI 1) (by rfl) dX7_addsFold_24 ?_
  first | with_reducible refine nd_iaddN hC dX7_addsFold_25 ?_ | refine nd_iadd hC dX7_addsFold_25 ?_
  refine mo_ast_known hC hw (by omega) dX7_addsFold_26 (fun h hw => ?_)
  try simp only [va_up_up, va_up_s] at hw
  refine nd_return hC rfl (by omega) (by omega) dX7_addsFold_27 ((hk h hw))
theorem sp_does (hg : nd_OK g) (hd : 1 ≤ d) {tt : Nat} {S : sy_S} {v : Int32} (hI : mo_I tt S A F B) (hS : sy_ok S) (hw : mo_W h0 A F B h) (hy : dd_why (sy_p S) v.toInt = 0) (hk : ∀ f2 h2, mo_I tt (sy_st S (dd_do (sy_c S) v.toInt)) (va_up A 0 f2) F B → mo_W h0 (va_up A 0 f2) F B h2 → K (.inl none) h2) : nd_M g mX7_does d 0 0 [.ref 101, .int v] h K := by
  have hn : sy_n S ≤ 6 := hS.1.1.1
  have h5 := sy_len5 hS
  have l1 : (sy_c S).2.1.length = sy_n S := hS.1.2.1.2.1
  have l2 : (sy_c S).2.2.length = sy_n S := hS.1.2.1.2.2.1
  have hok2 := dd_ok hS.1 hy
  have h55 := lk_val_le hn hok2.1
  have hcs := dd_why_0 hy
  have hsv := hI.1.2.1
  by_cases c1 : v.toInt = -1
  · have c1v : v = -1 := Int32.toInt_inj.mp (c1.trans (by decide))
    subst c1v
    refine nd_enter hg (by decide) rfl (Nat.le_of_ble_eq_true rfl) (fun X hC => ?_)
    refine nd_iload_n hC dX7_does_0 rfl ?_
    refine nd_iconst hC (v := -1) (by rfl) dX7_does_1 ?_
    first | with_reducible refine nd_icmp_neN hC (tgt := 6) (by omega) (by omega) dX7_does_2 (by decide) (fun hc => ?_) (fun hc => ?_) | refine nd_icmp_ne hC (tgt := 6) dX7_does_2 (by decide) (fun hc => ?_) (fun hc => ?_)
    · exact absurd rfl hc
    · refine nd_return hC rfl (by omega) (by omega) dX7_does_5 ((hk (A 0) h (by rw [va_up_id]; exact hI) (by rw [va_up_id]; exact hw)))
  · have hz : 0 ≤ v.toInt ∧ v.toInt ≤ 2599 := by omega
    obtain ⟨w, hw0, rfl⟩ : ∃ w : Nat, w ≤ 2599 ∧ v = nI w := ⟨v.toInt.toNat, by omega, by rw [← Int32.toInt_inj, nI_toInt (by omega)]; omega⟩
    rw [nI_toInt (by omega)] at hk hcs c1 h55
    have hcs : ((w : Int) ≤ 99 ∧ 10 ≤ (w : Int)) ∨ ((w = 100 ∨ w = 200) ∧ (sy_c S).1.length ≠ 0) ∨ (((1000 ≤ (w : Int) ∧ (w : Int) ≤ 1599) ∨ (2000 ≤ (w : Int) ∧ (w : Int) ≤ 2599)) ∧ w % 1000 / 100 < sy_n S) := by
      rcases hcs with q | q | q | q
      · exact absurd q c1
      · exact Or.inl (by omega)
      · exact Or.inr (Or.inl ⟨by omega, q.2⟩)
      · exact Or.inr (Or.inr ⟨q.1, by have := q.2; show w % 1000 / 100 < nk_n (sy_p S).1; omega⟩)
    unfold dd_do at hk h55
    rw [if_neg c1] at hk h55
    refine nd_enter hg (by decide) rfl (Nat.le_of_ble_eq_true rfl) (fun X hC => ?_)
    refine nd_iload_n hC dX7_does_0 rfl ?_
    refine nd_iconst hC (v := -1) (by rfl) dX7_does_1 ?_
    first | with_reducible refine nd_icmp_neN hC (tgt := 6) (by omega) (by omega) dX7_does_2 (by decide) (fun hc => ?_) (fun hc => ?_) | refine nd_icmp_ne hC (tgt := 6) dX7_does_2 (by decide) (fun hc => ?_) (fun hc => ?_)
    · refine nd_iload_n hC dX7_does_6 rfl ?_
      refine nd_bipush hC (v := nI 100) (by rfl) dX7_does_7 ?_
      first | with_reducible refine nd_icmp_geN hC (tgt := 20) (by omega) (by omega) dX7_does_9 (by decide) (fun hc2 => ?_) (fun hc2 => ?_) | refine nd_icmp_ge hC (tgt := 20) dX7_does_9 (by decide) (fun hc2 => ?_) (fun hc2 => ?_)
      · rw [if_neg (by omega)] at hk
        refine nd_iload_n hC dX7_does_20 rfl ?_
        refine nd_bipush hC (v := nI 100) (by rfl) dX7_does_21 ?_
        first | with_reducible refine nd_icmp_neN hC (tgt := 40) (by omega) (by omega) dX7_does_23 (by decide) (fun hc3 => ?_) (fun hc3 => ?_) | refine nd_icmp_ne hC (tgt := 40) dX7_does_23 (by decide) (fun hc3 => ?_) (fun hc3 => ?_)
        · rw [if_neg (by omega)] at hk
          refine nd_iload_n hC dX7_does_40 rfl ?_
          refine nd_sipush hC (v := nI 200) (by rfl) dX7_does_41 ?_
          first | with_reducible refine nd_icmp_neN hC (tgt := 58) (by omega) (by omega) dX7_does_44 (by decide) (fun hc4 => ?_) (fun hc4 => ?_) | refine nd_icmp_ne hC (tgt := 58) dX7_does_44 (by decide) (fun hc4 => ?_) (fun hc4 => ?_)
          · rw [if_neg (by omega)] at hk
            have hq : w % 1000 / 100 < sy_n S := by omega
            have e1 : 13 + 6 * (w / 1000 - 1) + w % 1000 / 100 < 2912 := by omega
            refine nd_aload_n hC dX7_does_58 rfl rfl ?_
            refine mo_get_known hC hw rfl dX7_does_59 ?_
            refine nd_bipush hC (v := nI 13) (by rfl) dX7_does_62 ?_
            refine nd_bipush hC (v := nI 6) (by rfl) dX7_does_64 ?_
            refine nd_iload_n hC dX7_does_66 rfl ?_
            refine nd_sipush hC (v := nI 1000) (by rfl) dX7_does_67 ?_
            first | with_reducible refine nd_idivN hC (by omega) (by omega) (by omega) dX7_does_70 ?_ | refine nd_idiv hC (by decide) dX7_does_70 ?_
            refine nd_iconst hC (v := nI 1) (by rfl) dX7_does_71 ?_
            first | with_reducible refine nd_isubN hC (by omega) dX7_does_72 ?_ | refine nd_isub hC dX7_does_72 ?_
            first | with_reducible refine nd_imulN hC dX7_does_73 ?_ | refine nd_imul hC dX7_does_73 ?_
            first | with_reducible refine nd_iaddN hC dX7_does_74 ?_ | refine nd_iadd hC dX7_does_74 ?_
            refine nd_iload_n hC dX7_does_75 rfl ?_
            refine nd_sipush hC (v := nI 1000) (by rfl) dX7_does_76 ?_
            first | with_reducible refine nd_iremN hC (by omega) (by omega) (by omega) dX7_does_79 ?_ | refine nd_irem hC (by decide) dX7_does_79 ?_
            refine nd_bipush hC (v := nI 100) (by rfl) dX7_does_80 ?_
            first | with_reducible refine nd_idivN hC (by omega) (by omega) (by omega) dX7_does_82 ?_ | refine nd_idiv hC (by decide) dX7_does_82 ?_
            first | with_reducible refine nd_iaddN hC dX7_does_83 ?_ | refine nd_iadd hC dX7_does_83 ?_
            refine nd_iload_n hC dX7_does_84 rfl ?_
            refine nd_bipush hC (v := nI 100) (by rfl) dX7_does_85 ?_
            first | with_reducible refine nd_iremN hC (by omega) (by omega) (by omega) dX7_does_87 ?_ | refine nd_irem hC (by decide) dX7_does_87 ?_
            refine mo_ast_known hC hw (by omega) dX7_does_88 (fun h hw => ?_)
            try simp only [va_up_up, va_up_s] at hw
            by_cases c5 : w < 2000
            · rw [if_pos (by omega)] at hk
              have ej : 13 + 6 * (w / 1000 - 1) + w % 1000 / 100 = 13 + w % 1000 / 100 := by omega
              rw [ej] at hw
              refine nd_return hC rfl (by omega) (by omega) dX7_does_89 ((hk _ h (hI.st hS (fun i hi => upd_n (by omega)) (mo_sv_fr hsv h5 (by omega) (by omega) (by omega))) hw))
            · rw [if_neg (by omega)] at hk
              have ej : 13 + 6 * (w / 1000 - 1) + w % 1000 / 100 = 19 + w % 1000 / 100 := by omega
              rw [ej] at hw
              refine nd_return hC rfl (by omega) (by omega) dX7_does_89 ((hk _ h (hI.st hS (fun i hi => upd_n (by omega)) (mo_sv_bk hsv h5 (by omega) (by omega) (by omega))) hw))
          · rw [if_pos (by omega)] at hk
            refine nd_aload_n hC dX7_does_47 rfl rfl ?_
            refine mo_get_known hC hw rfl dX7_does_48 ?_
            refine nd_bipush hC (v := nI 7) (by rfl) dX7_does_51 ?_
            refine nd_iconst hC (v := nI 0) (by rfl) dX7_does_53 ?_
            refine mo_ast_known hC hw (by omega) dX7_does_54 (fun h hw => ?_)
            try simp only [va_up_up, va_up_s] at hw
            refine nd_goto hC (tgt := 89) dX7_does_55 (by decide) ?_
            refine nd_return hC rfl (by omega) (by omega) dX7_does_89 ((hk _ h (hI.st hS (fun i hi => upd_n (by omega)) (mo_sv_less (fs := []) hsv (fun i hi => absurd hi (Nat.not_lt_zero _)) (Nat.zero_le _))) hw))
        · rw [if_pos (by omega)] at hk
          have hl : (sy_c S).1.dropLast.length = (sy_c S).1.length - 1 := List.length_dropLast ..
          refine nd_aload_n hC dX7_does_26 rfl rfl ?_
          refine mo_get_known hC hw rfl dX7_does_27 ?_
          refine nd_bipush hC (v := nI 7) (by rfl) dX7_does_30 ?_
          refine nd_dup2_11 hC (by rfl) (by rfl) dX7_does_32 ?_
          refine nd_ialoadN hC hw.known (by omega) (by decide) dX7_does_33 ?_
          rw [hI.fs.1]
          refine nd_iconst hC (v := nI 1) (by rfl) dX7_does_34 ?_
          first | with_reducible refine nd_isubN hC (by omega) dX7_does_35 ?_ | refine nd_isub hC dX7_does_35 ?_
          refine mo_ast_known hC hw (by omega) dX7_does_36 (fun h hw => ?_)
          try simp only [va_up_up, va_up_s] at hw
          refine nd_goto hC (tgt := 89) dX7_does_37 (by decide) ?_
          rw [← hl] at hw
          refine nd_return hC rfl (by omega) (by omega) dX7_does_89 ((hk _ h (hI.st hS (fun i hi => upd_n (by omega)) (mo_sv_less hsv (fun i hi => sv_getD_dl hi) (by omega))) hw))
      · rw [if_pos (by omega)] at hk h55
        rw [List.length_append, List.length_singleton] at h55
        have h4 : (sy_c S).1.length ≤ 4 := by show (sy_p S).2.1.1.length ≤ 4; omega
        refine nd_aload_n hC dX7_does_12 rfl rfl ?_
        refine nd_iload_n hC dX7_does_13 rfl ?_
        refine mo_callV (As := [_]) (d2 := d - 1) hC hw rfl lkX7_365 lyX7_365 (Nat.le_of_ble_eq_true rfl) (by omega) rfl (by exact Nat.le_of_ble_eq_true rfl) (Nat.zero_le _) (Nat.zero_le _) dX7_does_14 rfl ((sp_addsFold hg hw hI.fs.1 h4 ?_))
        intro h hw
        refine nd_goto hC (tgt := 89) dX7_does_17 (by decide) ?_
        refine nd_return hC rfl (by omega) (by omega) dX7_does_89 ((hk _ h (hI.st hS (fun i hi => by rw [upd_n (by omega), upd_n (by omega)]) (mo_sv_fold hsv h4 (by show (sy_c S).2.1.length ≤ 6; omega) (by show (sy_c S).2.2.length ≤ 6; omega))) hw))
    · exact absurd hc (by intro q; have := congrArg Int32.toInt q; rw [nI_toInt (by omega)] at this; exact absurd this (by show ¬ _ = (-1 : Int); omega))
end MO30

