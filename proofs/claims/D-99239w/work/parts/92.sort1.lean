set_option maxRecDepth 100000
/-! ===== sorting rows of longs: same SET of values within lo..hi (that is all that counting unlike ones needs), sorted ===== -/
theorem uL_s {f : Nat → Int64} {j : Nat} {x : Int64} : vp_updL f j x j = x := by simp [vp_updL]
theorem uL_n {f : Nat → Int64} {j q : Nat} {x : Int64} (h : q ≠ j) : vp_updL f j x q = f q := by simp [vp_updL, h]
def so_p (lo hi : Nat) (f f2 : Nat → Int64) : Prop := (∀ i, ¬ (lo ≤ i ∧ i < hi) → f2 i = f i) ∧ (∀ i, lo ≤ i → i < hi → ∃ j, lo ≤ j ∧ j < hi ∧ f2 i = f j) ∧ ∀ j, lo ≤ j → j < hi → ∃ i, lo ≤ i ∧ i < hi ∧ f2 i = f j
def so_s (lo hi : Nat) (f : Nat → Int64) : Prop := ∀ i j, lo ≤ i → i ≤ j → j < hi → (f i).toInt ≤ (f j).toInt
theorem so_p.rfl {lo hi : Nat} {f : Nat → Int64} : so_p lo hi f f := ⟨fun _ _ => Eq.refl _, fun i a b => ⟨i, a, b, Eq.refl _⟩, fun i a b => ⟨i, a, b, Eq.refl _⟩⟩
theorem so_p.trans {lo hi : Nat} {f f2 f3 : Nat → Int64} (a : so_p lo hi f f2) (b : so_p lo hi f2 f3) : so_p lo hi f f3 := by
  refine ⟨fun i h => (b.1 i h).trans (a.1 i h), fun i h1 h2 => ?_, fun j h1 h2 => ?_⟩
  · obtain ⟨k, q1, q2, q3⟩ := b.2.1 i h1 h2
    obtain ⟨m, r1, r2, r3⟩ := a.2.1 k q1 q2
    exact ⟨m, r1, r2, q3.trans r3⟩
  · obtain ⟨k, q1, q2, q3⟩ := a.2.2 j h1 h2
    obtain ⟨m, r1, r2, r3⟩ := b.2.2 k q1 q2
    exact ⟨m, r1, r2, r3.trans q3⟩
/-- two places change places -/
theorem so_p.swap {lo hi : Nat} {f f2 : Nat → Int64} {i j : Nat} (hi1 : lo ≤ i) (hi2 : i < hi) (hj1 : lo ≤ j) (hj2 : j < hi) (e1 : f2 i = f j) (e2 : f2 j = f i) (e : ∀ q, q ≠ i → q ≠ j → f2 q = f q) : so_p lo hi f f2 := by
  refine ⟨fun q h => e q (by intro z; subst z; exact h ⟨hi1, hi2⟩) (by intro z; subst z; exact h ⟨hj1, hj2⟩), fun q h1 h2 => ?_, fun q h1 h2 => ?_⟩
  · by_cases z : q = i
    · subst z; exact ⟨j, hj1, hj2, e1⟩
    · by_cases z2 : q = j
      · subst z2; exact ⟨i, hi1, hi2, e2⟩
      · exact ⟨q, h1, h2, e q z z2⟩
  · by_cases z : q = i
    · subst z; exact ⟨j, hj1, hj2, e2⟩
    · by_cases z2 : q = j
      · subst z2; exact ⟨i, hi1, hi2, e1⟩
      · exact ⟨q, h1, h2, e q z z2⟩
/-- within a smaller part -/
theorem so_p.wide {lo hi lo2 hi2 : Nat} {f f2 : Nat → Int64} (a : so_p lo hi f f2) (h1 : lo2 ≤ lo) (h2 : hi ≤ hi2) : so_p lo2 hi2 f f2 := by
  refine ⟨fun i h => a.1 i (fun q => h ⟨by omega, by omega⟩), fun i q1 q2 => ?_, fun i q1 q2 => ?_⟩
  · by_cases z : lo ≤ i ∧ i < hi
    · obtain ⟨j, r1, r2, r3⟩ := a.2.1 i z.1 z.2
      exact ⟨j, by omega, by omega, r3⟩
    · exact ⟨i, q1, q2, a.1 i z⟩
  · by_cases z : lo ≤ i ∧ i < hi
    · obtain ⟨j, r1, r2, r3⟩ := a.2.2 i z.1 z.2
      exact ⟨j, by omega, by omega, r3⟩
    · exact ⟨i, q1, q2, a.1 i z⟩
section SO92
variable {g : nd_G} {mm : nd_Mt} {d mc ms : Nat} {K : nd_K} {X : nd_X} {pc : Nat} {lv : List (Option Value)} {st : List Value} {h : nd_H} {cs ss : Nat} {A n : Nat} {f : Nat → Int64}
theorem so_ast (hC : nd_Cx g mm X) (hlt : A < h.length) (hn : n ≤ 100000) {j : Nat} {x : Int64} (hj : j < n) (hd : decode mm.2.1 pc = .ok (.lastore, 1)) (kk : nd_W g mm d mc ms K X (pc + 1) lv st (h.set A (.inl (1, n, .inr (.inl (vp_updL f j x))))) cs ss) : nd_W g mm d mc ms K X pc lv (.long x :: .int (nI j) :: .ref A :: st) (h.set A (.inl (1, n, .inr (.inl f)))) cs ss := by
  refine nd_lastoreN hC (List.getElem?_set_self hlt) hj (by omega) hd ?_
  rw [List.set_set]
  exact kk
theorem so_insertion (hg : nd_OK g) {lo hi : Nat} (hlt : A < h.length) (hn : n ≤ 100000) (h1 : lo ≤ hi) (h2 : hi ≤ n) (hk : ∀ f2, so_p lo hi f f2 → so_s lo hi f2 → K (.inl none) (h.set A (.inl (1, n, .inr (.inl f2))))) : nd_M g mJ25_insertionSort d 0 0 [.ref A, .int (nI lo), .int (nI hi)] (h.set A (.inl (1, n, .inr (.inl f)))) K := by
  refine nd_enter hg (by decide) rfl (Nat.le_of_ble_eq_true rfl) (fun X hC => ?_)
  refine nd_iload_n hC dJ25_insertionSort_0 rfl ?_
  refine nd_istore hC dJ25_insertionSort_1 (Nat.le_of_ble_eq_true rfl) ?_
  have L1 : ∀ t, t ≤ hi - lo - 1 → ∀ f2, so_p lo hi f f2 → so_s lo (lo + t + 1) f2 → nd_W g mJ25_insertionSort d 0 0 K X 3 [some (.ref A), some (.int (nI lo)), some (.int (nI hi)), none, some (.int (nI (lo + t))), none, none] [] (h.set A (.inl (1, n, .inr (.inl f2)))) 0 0 := by
    refine nd_for _ _ ?_ ?_
    · intro f2 hp hs
      first | with_reducible refine nd_iincN hC dJ25_insertionSort_3 rfl (Nat.le_of_ble_eq_true rfl) ?_ | refine nd_iinc hC dJ25_insertionSort_3 rfl rfl (Nat.le_of_ble_eq_true rfl) ?_
      refine nd_iload hC dJ25_insertionSort_6 rfl ?_
      refine nd_iload_n hC dJ25_insertionSort_8 rfl ?_
      first | with_reducible refine nd_icmp_geN hC (tgt := 69) (by omega) (by omega) dJ25_insertionSort_9 (by decide) (fun hq => ?_) (fun hq => ?_) | refine nd_icmp_ge hC (tgt := 69) dJ25_insertionSort_9 (by decide) (fun hq => ?_) (fun hq => ?_)
      · refine nd_return hC rfl (by omega) (by omega) dJ25_insertionSort_69 ((hk f2 hp (fun i j a b c => hs i j a b (by omega))))
      · omega
    · intro t ht ih f2 hp hs
      first | with_reducible refine nd_iincN hC dJ25_insertionSort_3 rfl (Nat.le_of_ble_eq_true rfl) ?_ | refine nd_iinc hC dJ25_insertionSort_3 rfl rfl (Nat.le_of_ble_eq_true rfl) ?_
      refine nd_iload hC dJ25_insertionSort_6 rfl ?_
      refine nd_iload_n hC dJ25_insertionSort_8 rfl ?_
      first | with_reducible refine nd_icmp_geN hC (tgt := 69) (by omega) (by omega) dJ25_insertionSort_9 (by decide) (fun hq => ?_) (fun hq => ?_) | refine nd_icmp_ge hC (tgt := 69) dJ25_insertionSort_9 (by decide) (fun hq => ?_) (fun hq => ?_)
      · omega
      generalize hai : f2 (lo + t + 1) = ai
      have J : ∀ f3 lv3 lv5, so_p lo hi f f3 → so_s lo (lo + (t + 1) + 1) f3 → nd_W g mJ25_insertionSort d 0 0 K X 66 [some (.ref A), some (.int (nI lo)), some (.int (nI hi)), lv3, some (.int (nI (lo + t + 1))), lv5, none] [] (h.set A (.inl (1, n, .inr (.inl f3)))) 0 0 := by
        intro f3 lv3 lv5 hp3 hs3
        refine nd_goto hC (tgt := 3) dJ25_insertionSort_66 (by decide) ?_
        refine nd_drop 3 ?_
        refine nd_drop 5 ?_
        exact ih f3 hp3 hs3
      refine nd_aload_n hC dJ25_insertionSort_12 rfl rfl ?_
      refine nd_iload hC dJ25_insertionSort_13 rfl ?_
      refine nd_dup hC (by rfl) dJ25_insertionSort_15 ?_
      refine nd_istore_n hC dJ25_insertionSort_16 (Nat.le_of_ble_eq_true rfl) ?_
      refine nd_laloadN hC (List.getElem?_set_self hlt) (by omega) (by omega) dJ25_insertionSort_17 ?_
      rw [hai]
      refine nd_lstore hC dJ25_insertionSort_18 (Nat.le_of_ble_eq_true rfl) ?_
      refine nd_lload hC dJ25_insertionSort_20 rfl ?_
      refine nd_aload_n hC dJ25_insertionSort_22 rfl rfl ?_
      refine nd_iload_n hC dJ25_insertionSort_23 rfl ?_
      refine nd_iconst hC (v := nI 1) (by rfl) dJ25_insertionSort_24 ?_
      first | with_reducible refine nd_isubN hC (by omega) dJ25_insertionSort_25 ?_ | refine nd_isub hC dJ25_insertionSort_25 ?_
      refine nd_laloadN hC (List.getElem?_set_self hlt) (by omega) (by omega) dJ25_insertionSort_26 ?_
      refine nd_lcmp_ge hC (tgt := 66) dJ25_insertionSort_27 dJ25_insertionSort_28 (by decide) (fun hq1 => ?_) (fun hq1 => ?_)
      · refine J f2 _ _ hp (fun i j a b c => ?_)
        rw [Int64.le_iff_toInt_le] at hq1
        by_cases e : j = lo + t + 1
        · subst e
          by_cases e2 : i = lo + t + 1
          · subst e2; exact Int.le_refl _
          · have := hs i (lo + t) a (by omega) (by omega)
            rw [hai]
            rw [show lo + t + 1 - 1 = lo + t by omega] at hq1
            omega
        · exact hs i j a b (by omega)
      · have L2 : ∀ m f3, m ≤ t + 1 → so_p lo hi f (vp_updL f3 (lo + m) ai) → (∀ i j, lo ≤ i → i ≤ j → j ≤ lo + t + 1 → i ≠ lo + m → j ≠ lo + m → (f3 i).toInt ≤ (f3 j).toInt) → (∀ i, lo + m < i → i ≤ lo + t + 1 → ai.toInt ≤ (f3 i).toInt) → nd_W g mJ25_insertionSort d 0 0 K X 31 [some (.ref A), some (.int (nI lo)), some (.int (nI hi)), some (.int (nI (lo + m))), some (.int (nI (lo + t + 1))), some (.long ai), none] [] (h.set A (.inl (1, n, .inr (.inl f3)))) 0 0 := by
          have E : ∀ m f3 lv3 lv5, m ≤ t + 1 → so_p lo hi f (vp_updL f3 (lo + m) ai) → (∀ i j, lo ≤ i → i ≤ j → j ≤ lo + t + 1 → i ≠ lo + m → j ≠ lo + m → (f3 i).toInt ≤ (f3 j).toInt) → (∀ i, lo + m < i → i ≤ lo + t + 1 → ai.toInt ≤ (f3 i).toInt) → (∀ i, lo ≤ i → i < lo + m → (f3 i).toInt ≤ ai.toInt) → nd_W g mJ25_insertionSort d 0 0 K X 66 [some (.ref A), some (.int (nI lo)), some (.int (nI hi)), lv3, some (.int (nI (lo + t + 1))), lv5, none] [] (h.set A (.inl (1, n, .inr (.inl (vp_updL f3 (lo + m) ai))))) 0 0 := by
            intro m f3 lv3 lv5 hm hp3 hs3 hg3 hl3
            refine J _ _ _ hp3 (fun i j a b c => ?_)
            by_cases e1 : i = lo + m
            · subst e1
              rw [uL_s]
              by_cases e2 : j = lo + m
              · subst e2; rw [uL_s]; exact Int.le_refl _
              · rw [uL_n e2]; exact hg3 j (by omega) (by omega)
            · rw [uL_n e1]
              by_cases e2 : j = lo + m
              · subst e2; rw [uL_s]; exact hl3 i a (by omega)
              · rw [uL_n e2]; exact hs3 i j a b (by omega) e1 e2
          intro m
          induction m with
          | zero =>
            intro f3 hm hp3 hs3 hg3
            first | with_reducible refine nd_iincN hC dJ25_insertionSort_31 rfl (Nat.le_of_ble_eq_true rfl) ?_ | refine nd_iinc hC dJ25_insertionSort_31 rfl rfl (Nat.le_of_ble_eq_true rfl) ?_
            rw [i_dec]
            refine nd_iload_n hC dJ25_insertionSort_34 rfl ?_
            refine nd_iload_n hC dJ25_insertionSort_35 rfl ?_
            refine nd_icmp_lt hC (tgt := 59) dJ25_insertionSort_36 (by decide) (fun hq4 => ?_) (fun hq4 => ?_)
            · refine nd_aload_n hC dJ25_insertionSort_59 rfl rfl ?_
              refine nd_iload_n hC dJ25_insertionSort_60 rfl ?_
              refine nd_iconst hC (v := nI 1) (by rfl) dJ25_insertionSort_61 ?_
              refine nd_iadd hC dJ25_insertionSort_62 ?_
              rw [Int32.sub_add_cancel]
              refine nd_lload hC dJ25_insertionSort_63 rfl ?_
              refine so_ast hC hlt hn (by omega) dJ25_insertionSort_65 ?_
              exact E 0 f3 _ _ hm hp3 hs3 hg3 (fun i a b => absurd b (by omega))
            · exfalso
              rw [Int32.lt_iff_toInt_lt, nd_ti (by omega) (by omega), nI_toInt (by omega)] at hq4
              omega
          | succ m ih2 =>
            intro f3 hm hp3 hs3 hg3
            first | with_reducible refine nd_iincN hC dJ25_insertionSort_31 rfl (Nat.le_of_ble_eq_true rfl) ?_ | refine nd_iinc hC dJ25_insertionSort_31 rfl rfl (Nat.le_of_ble_eq_true rfl) ?_
            rw [i_dec, show lo + (m + 1) = lo + m + 1 from rfl, i_pred (by omega)]
            refine nd_iload_n hC dJ25_insertionSort_34 rfl ?_
            refine nd_iload_n hC dJ25_insertionSort_35 rfl ?_
            first | with_reducible refine nd_icmp_ltN hC (tgt := 59) (by omega) (by omega) dJ25_insertionSort_36 (by decide) (fun hq4 => ?_) (fun hq4 => ?_) | refine nd_icmp_lt hC (tgt := 59) dJ25_insertionSort_36 (by decide) (fun hq4 => ?_) (fun hq4 => ?_)
            · omega
            refine nd_lload hC dJ25_insertionSort_39 rfl ?_
            refine nd_aload_n hC dJ25_insertionSort_41 rfl rfl ?_
            refine nd_iload_n hC dJ25_insertionSort_42 rfl ?_
            refine nd_laloadN hC (List.getElem?_set_self hlt) (by omega) (by omega) dJ25_insertionSort_43 ?_
            refine nd_lcmp_ge hC (tgt := 59) dJ25_insertionSort_44 dJ25_insertionSort_45 (by decide) (fun hq5 => ?_) (fun hq5 => ?_)
            · rw [Int64.le_iff_toInt_le] at hq5
              refine nd_aload_n hC dJ25_insertionSort_59 rfl rfl ?_
              refine nd_iload_n hC dJ25_insertionSort_60 rfl ?_
              refine nd_iconst hC (v := nI 1) (by rfl) dJ25_insertionSort_61 ?_
              first | with_reducible refine nd_iaddN hC dJ25_insertionSort_62 ?_ | refine nd_iadd hC dJ25_insertionSort_62 ?_
              refine nd_lload hC dJ25_insertionSort_63 rfl ?_
              refine so_ast hC hlt hn (by omega) dJ25_insertionSort_65 ?_
              refine E (m + 1) f3 _ _ hm hp3 hs3 hg3 (fun i a b => ?_)
              have := hs3 i (lo + m) a (by omega) (by omega) (by omega) (by omega)
              omega
            · rw [Int64.le_iff_toInt_le] at hq5
              refine nd_aload_n hC dJ25_insertionSort_48 rfl rfl ?_
              refine nd_iload_n hC dJ25_insertionSort_49 rfl ?_
              refine nd_iconst hC (v := nI 1) (by rfl) dJ25_insertionSort_50 ?_
              first | with_reducible refine nd_iaddN hC dJ25_insertionSort_51 ?_ | refine nd_iadd hC dJ25_insertionSort_51 ?_
              refine nd_aload_n hC dJ25_insertionSort_52 rfl rfl ?_
              refine nd_iload_n hC dJ25_insertionSort_53 rfl ?_
              refine nd_laloadN hC (List.getElem?_set_self hlt) (by omega) (by omega) dJ25_insertionSort_54 ?_
              refine so_ast hC hlt hn (by omega) dJ25_insertionSort_55 ?_
              refine nd_goto hC (tgt := 31) dJ25_insertionSort_56 (by decide) ?_
              refine ih2 _ (by omega) (hp3.trans (so_p.swap (i := lo + m) (j := lo + (m + 1)) (by omega) (by omega) (by omega) (by omega) ?_ ?_ ?_)) ?_ ?_
              · rw [uL_s, uL_s]
              · rw [uL_n (by omega), show lo + (m + 1) = lo + m + 1 from rfl, uL_s, uL_n (by omega)]
              · intro q z1 z2
                rw [uL_n z1, uL_n (by omega), uL_n z2]
              · intro i j a b c z1 z2
                by_cases e1 : i = lo + m + 1
                · subst e1
                  rw [uL_s]
                  by_cases e2 : j = lo + m + 1
                  · subst e2; rw [uL_s]; exact Int.le_refl _
                  · rw [uL_n e2]; exact hs3 (lo + m) j (by omega) (by omega) (by omega) (by omega) (by omega)
                · rw [uL_n e1]
                  by_cases e2 : j = lo + m + 1
                  · subst e2; rw [uL_s]; exact hs3 i (lo + m) a (by omega) (by omega) (by omega) (by omega)
                  · rw [uL_n e2]; exact hs3 i j a b c (by omega) (by omega)
              · intro i a b
                by_cases e1 : i = lo + m + 1
                · subst e1; rw [uL_s]; omega
                · rw [uL_n e1]; exact hg3 i (by omega) b
        refine L2 (t + 1) f2 (Nat.le_refl _) ?_ ?_ ?_
        · have e : vp_updL f2 (lo + (t + 1)) ai = f2 := by
            funext q
            by_cases e : q = lo + (t + 1)
            · subst e; rw [uL_s]; exact hai.symm
            · rw [uL_n e]
          rw [e]
          exact hp
        · intro i j a b c z1 z2
          exact hs i j a b (by omega)
        · intro i a b
          omega
  exact L1 0 (Nat.zero_le _) f so_p.rfl (fun i j a b c => by rw [show i = j by omega]; exact Int.le_refl _)
end SO92

