set_option maxRecDepth 100000
/-! ===== partition by two pivots ===== -/
def pt_F (lo en : Nat) (p1 p2 : Int64) (u : Nat → Int64) : Nat → Int64 := vp_updL (vp_updL u lo p1) en p2
theorem pt_F_n {lo en q : Nat} {p1 p2 : Int64} {u : Nat → Int64} (h1 : q ≠ lo) (h2 : q ≠ en) : pt_F lo en p1 p2 u q = u q := by unfold pt_F; rw [uL_n h2, uL_n h1]
theorem pt_F_lo {lo en : Nat} {p1 p2 : Int64} {u : Nat → Int64} (h : lo ≠ en) : pt_F lo en p1 p2 u lo = p1 := by unfold pt_F; rw [uL_n h, uL_s]
theorem pt_F_en {lo en : Nat} {p1 p2 : Int64} {u : Nat → Int64} : pt_F lo en p1 p2 u en = p2 := by unfold pt_F; rw [uL_s]
theorem pt_swap {lo en hi i j : Nat} {p1 p2 : Int64} {u u2 : Nat → Int64} (he : en < hi) (h1 : lo < i) (h2 : i < en) (h3 : lo < j) (h4 : j < en) (e1 : u2 i = u j) (e2 : u2 j = u i) (e : ∀ q, q ≠ i → q ≠ j → u2 q = u q) : so_p lo hi (pt_F lo en p1 p2 u) (pt_F lo en p1 p2 u2) := by
  refine so_p.swap (i := i) (j := j) (by omega) (by omega) (by omega) (by omega) ?_ ?_ (fun q z1 z2 => ?_)
  · rw [pt_F_n (by omega) (by omega), pt_F_n (by omega) (by omega), e1]
  · rw [pt_F_n (by omega) (by omega), pt_F_n (by omega) (by omega), e2]
  · by_cases q1 : q = lo
    · subst q1; rw [pt_F_lo (by omega), pt_F_lo (by omega)]
    · by_cases q2 : q = en
      · subst q2; rw [pt_F_en, pt_F_en]
      · rw [pt_F_n q1 q2, pt_F_n q1 q2, e q z1 z2]
theorem pt_cyc {lo en hi i j k : Nat} {p1 p2 : Int64} {u u2 : Nat → Int64} (he : en < hi) (h1 : lo < i) (h2 : i < en) (h3 : lo < j) (h4 : j < en) (h5 : lo < k) (h6 : k < en) (e1 : u2 i = u j) (e2 : u2 j = u k) (e3 : u2 k = u i) (e : ∀ q, q ≠ i → q ≠ j → q ≠ k → u2 q = u q) : so_p lo hi (pt_F lo en p1 p2 u) (pt_F lo en p1 p2 u2) := by
  refine so_p.cyc (i := i) (j := j) (k := k) (by omega) (by omega) (by omega) (by omega) (by omega) (by omega) ?_ ?_ ?_ (fun q z1 z2 z3 => ?_)
  · rw [pt_F_n (by omega) (by omega), pt_F_n (by omega) (by omega), e1]
  · rw [pt_F_n (by omega) (by omega), pt_F_n (by omega) (by omega), e2]
  · rw [pt_F_n (by omega) (by omega), pt_F_n (by omega) (by omega), e3]
  · by_cases q1 : q = lo
    · subst q1; rw [pt_F_lo (by omega), pt_F_lo (by omega)]
    · by_cases q2 : q = en
      · subst q2; rw [pt_F_en, pt_F_en]
      · rw [pt_F_n q1 q2, pt_F_n q1 q2, e q z1 z2 z3]
/-- left of lw, between, from up on -/
def pt_i (lo en : Nat) (p1 p2 : Int64) (lw k up : Nat) (u : Nat → Int64) : Prop := (∀ j, lo < j → j ≤ lw → (u j).toInt < p1.toInt) ∧ (∀ j, k ≤ j → lw < j → j < up → p1.toInt ≤ (u j).toInt ∧ (u j).toInt ≤ p2.toInt) ∧ ∀ j, up ≤ j → j < en → p2.toInt < (u j).toInt
/-- the end of it -/
theorem pt_end {lo en hi lw up : Nat} {p1 p2 : Int64} {u : Nat → Int64} (he : en < hi) (hen : en + 1 = hi) (h1 : lo ≤ lw) (h2 : lw < up) (h3 : up ≤ en) (hi2 : pt_i lo en p1 p2 lw (lw + 1) up u) : so_p lo hi (pt_F lo en p1 p2 u) (vp_updL (vp_updL (vp_updL (vp_updL u lo (u lw)) lw p1) en ((vp_updL (vp_updL u lo (u lw)) lw p1) up)) up p2) ∧ (∀ j, lo ≤ j → j < lw → (vp_updL (vp_updL (vp_updL (vp_updL u lo (u lw)) lw p1) en ((vp_updL (vp_updL u lo (u lw)) lw p1) up)) up p2 j).toInt ≤ p1.toInt) ∧ vp_updL (vp_updL (vp_updL (vp_updL u lo (u lw)) lw p1) en ((vp_updL (vp_updL u lo (u lw)) lw p1) up)) up p2 lw = p1 ∧ (∀ j, lw < j → j < up → p1.toInt ≤ (vp_updL (vp_updL (vp_updL (vp_updL u lo (u lw)) lw p1) en ((vp_updL (vp_updL u lo (u lw)) lw p1) up)) up p2 j).toInt ∧ (vp_updL (vp_updL (vp_updL (vp_updL u lo (u lw)) lw p1) en ((vp_updL (vp_updL u lo (u lw)) lw p1) up)) up p2 j).toInt ≤ p2.toInt) ∧ vp_updL (vp_updL (vp_updL (vp_updL u lo (u lw)) lw p1) en ((vp_updL (vp_updL u lo (u lw)) lw p1) up)) up p2 up = p2 ∧ (∀ j, up < j → j < hi → p2.toInt ≤ (vp_updL (vp_updL (vp_updL (vp_updL u lo (u lw)) lw p1) en ((vp_updL (vp_updL u lo (u lw)) lw p1) up)) up p2 j).toInt) := by
  generalize hG1 : vp_updL (vp_updL u lo (u lw)) lw p1 = G1
  generalize hG : vp_updL (vp_updL G1 en (G1 up)) up p2 = G
  have g1w : G1 lw = p1 := by rw [← hG1, uL_s]
  have g1l : lo ≠ lw → G1 lo = u lw := fun z => by rw [← hG1, uL_n z, uL_s]
  have g1o : ∀ q, q ≠ lo → q ≠ lw → G1 q = u q := fun q z1 z2 => by rw [← hG1, uL_n z2, uL_n z1]
  have gu : G up = p2 := by rw [← hG, uL_s]
  have ge : en ≠ up → G en = u up := fun z => by rw [← hG, uL_n z, uL_s]; exact g1o up (by omega) (by omega)
  have go : ∀ q, q ≠ en → q ≠ up → G q = G1 q := fun q z1 z2 => by rw [← hG, uL_n z2, uL_n z1]
  obtain ⟨a1, a2, a3⟩ := hi2
  refine ⟨?_, fun j b1 b2 => ?_, ?_, fun j b1 b2 => ?_, gu, fun j b1 b2 => ?_⟩
  · have s1 : so_p lo hi (pt_F lo en p1 p2 u) (vp_updL G1 en p2) := by
      refine so_p.swap (i := lo) (j := lw) (by omega) (by omega) (by omega) (by omega) ?_ ?_ (fun q z1 z2 => ?_)
      · rw [uL_n (by omega)]
        by_cases z : lo = lw
        · rw [← z] at g1w ⊢; rw [g1w, pt_F_lo (by omega)]
        · rw [g1l z, pt_F_n (by omega) (by omega)]
      · rw [uL_n (by omega), g1w, pt_F_lo (by omega)]
      · by_cases z : q = en
        · subst z; rw [uL_s, pt_F_en]
        · rw [uL_n z, g1o q z1 z2, pt_F_n z1 z]
    refine s1.trans (so_p.swap (i := en) (j := up) (by omega) (by omega) (by omega) (by omega) ?_ ?_ (fun q z1 z2 => ?_))
    · by_cases z : en = up
      · rw [z, gu, uL_s]
      · rw [ge z, uL_n (Ne.symm z), g1o up (by omega) (by omega)]
    · rw [gu, uL_s]
    · rw [go q z1 z2, uL_n z1]
  · by_cases z : j = lo
    · subst z
      rw [go j (by omega) (by omega), g1l (by omega)]
      have := a1 lw (by omega) (Nat.le_refl _)
      omega
    · rw [go j (by omega) (by omega), g1o j z (by omega)]
      have := a1 j (by omega) (by omega)
      omega
  · rw [go lw (by omega) (by omega), g1w]
  · rw [go j (by omega) (by omega), g1o j (by omega) (by omega)]
    exact a2 j (by omega) b1 b2
  · by_cases z : j = en
    · subst z
      rw [ge (by omega)]
      have := a3 up (Nat.le_refl _) (by omega)
      omega
    · rw [go j z (by omega), g1o j (by omega) (by omega)]
      have := a3 j (by omega) (by omega)
      omega
section SO9908
variable {g : nd_G} {d mc ms cs ss : Nat} {K : nd_K} {X : nd_X} {h : nd_H} {A n : Nat}
theorem so_two529 (hC : nd_Cx g mJ25_sort_2 X) (hlt : A < h.length) (hn : n ≤ 100000) {b lo hi e1 e2 e3 e4 e5 up : Nat} {p1 p2 : Int64} {u : Nat → Int64} {l7 l13 l21 l22 l23 l24 : Option Value} (h1 : lo < e2) (h2 : e2 < n) (he2 : p1.toInt ≤ (u e2).toInt) (kk : ∀ lw, lo ≤ lw → lw < e2 → (∀ j, lo < j → j ≤ lw → (u j).toInt < p1.toInt) → nd_W g mJ25_sort_2 d mc ms K X 545 [some .null, some (.ref A), some (.int (nI b)), some (.int (nI lo)), some (.int (nI hi)), some (.int (nI (hi - 1))), some (.int (nI (hi - lo))), l7, some (.int (nI e1)), some (.int (nI e5)), some (.int (nI e3)), some (.int (nI e2)), some (.int (nI e4)), l13, none, some (.int (nI (lw + 1))), some (.int (nI up)), some (.long p1), none, some (.long p2), none, l21, l22, l23, l24] [] (h.set A (.inl (1, n, .inr (.inl (u))))) cs ss) : ∀ t lw, lw + t = e2 → lo ≤ lw → lw < e2 → (∀ j, lo < j → j ≤ lw → (u j).toInt < p1.toInt) → nd_W g mJ25_sort_2 d mc ms K X 529 [some .null, some (.ref A), some (.int (nI b)), some (.int (nI lo)), some (.int (nI hi)), some (.int (nI (hi - 1))), some (.int (nI (hi - lo))), l7, some (.int (nI e1)), some (.int (nI e5)), some (.int (nI e3)), some (.int (nI e2)), some (.int (nI e4)), l13, none, some (.int (nI lw)), some (.int (nI up)), some (.long p1), none, some (.long p2), none, l21, l22, l23, l24] [] (h.set A (.inl (1, n, .inr (.inl (u))))) cs ss := by
  intro t
  induction t with
  | zero => intro lw a1 a2 a3; omega
  | succ t ih =>
    intro lw a1 a2 a3 a4
    refine nd_aload_n hC dJ25_sort_2_529 rfl rfl ?_
    first | with_reducible refine nd_iincN hC dJ25_sort_2_530 rfl (Nat.le_of_ble_eq_true rfl) ?_ | refine nd_iinc hC dJ25_sort_2_530 rfl rfl (Nat.le_of_ble_eq_true rfl) ?_
    refine nd_iload hC dJ25_sort_2_533 rfl ?_
    refine nd_laloadN hC (List.getElem?_set_self hlt) (by omega) (by omega) dJ25_sort_2_535 ?_
    refine nd_lload hC dJ25_sort_2_536 rfl ?_
    refine nd_lcmp_ge hC (tgt := 545) dJ25_sort_2_538 dJ25_sort_2_539 (by decide) (fun hq => ?_) (fun hq => ?_)
    · exact kk lw a2 a3 a4
    · rw [Int64.le_iff_toInt_le] at hq
      refine nd_goto hC (tgt := 529) dJ25_sort_2_542 (by decide) ?_
      refine ih (lw + 1) (by omega) (by omega) ?_ (fun j b1 b2 => ?_)
      · rcases Nat.lt_or_ge (lw + 1) e2 with z | z
        · exact z
        · rw [show e2 = lw + 1 by omega] at he2; exact absurd he2 hq
      · by_cases z : j = lw + 1
        · subst z; omega
        · exact a4 j b1 (by omega)
theorem so_two545 (hC : nd_Cx g mJ25_sort_2 X) (hlt : A < h.length) (hn : n ≤ 100000) {b lo hi e1 e2 e3 e4 e5 en lw : Nat} {p1 p2 : Int64} {u : Nat → Int64} {l7 l13 l21 l22 l23 l24 : Option Value} (h1 : e4 < en) (h2 : en < n) (he4 : (u e4).toInt ≤ p2.toInt) (kk : ∀ up, e4 < up → up ≤ en → (∀ j, up ≤ j → j < en → p2.toInt < (u j).toInt) → nd_W g mJ25_sort_2 d mc ms K X 561 [some .null, some (.ref A), some (.int (nI b)), some (.int (nI lo)), some (.int (nI hi)), some (.int (nI (hi - 1))), some (.int (nI (hi - lo))), l7, some (.int (nI e1)), some (.int (nI e5)), some (.int (nI e3)), some (.int (nI e2)), some (.int (nI e4)), l13, none, some (.int (nI lw)), some (.int (nI (up - 1))), some (.long p1), none, some (.long p2), none, l21, l22, l23, l24] [] (h.set A (.inl (1, n, .inr (.inl (u))))) cs ss) : ∀ t up, e4 + t = up → e4 < up → up ≤ en → (∀ j, up ≤ j → j < en → p2.toInt < (u j).toInt) → nd_W g mJ25_sort_2 d mc ms K X 545 [some .null, some (.ref A), some (.int (nI b)), some (.int (nI lo)), some (.int (nI hi)), some (.int (nI (hi - 1))), some (.int (nI (hi - lo))), l7, some (.int (nI e1)), some (.int (nI e5)), some (.int (nI e3)), some (.int (nI e2)), some (.int (nI e4)), l13, none, some (.int (nI lw)), some (.int (nI up)), some (.long p1), none, some (.long p2), none, l21, l22, l23, l24] [] (h.set A (.inl (1, n, .inr (.inl (u))))) cs ss := by
  intro t
  induction t with
  | zero => intro up a1 a2 a3; omega
  | succ t ih =>
    intro up a1 a2 a3 a4
    refine nd_aload_n hC dJ25_sort_2_545 rfl rfl ?_
    first | with_reducible refine nd_iincN hC dJ25_sort_2_546 rfl (Nat.le_of_ble_eq_true rfl) ?_ | refine nd_iinc hC dJ25_sort_2_546 rfl rfl (Nat.le_of_ble_eq_true rfl) ?_
    rw [i_dec, show nI up = nI (up - 1 + 1) by rw [Nat.sub_add_cancel (by omega)], i_pred (by omega)]
    refine nd_iload hC dJ25_sort_2_549 rfl ?_
    refine nd_laloadN hC (List.getElem?_set_self hlt) (by omega) (by omega) dJ25_sort_2_551 ?_
    refine nd_lload hC dJ25_sort_2_552 rfl ?_
    refine nd_lcmp_le hC (tgt := 561) dJ25_sort_2_554 dJ25_sort_2_555 (by decide) (fun hq => ?_) (fun hq => ?_)
    · exact kk up a2 a3 a4
    · rw [Int64.le_iff_toInt_le] at hq
      refine nd_goto hC (tgt := 545) dJ25_sort_2_558 (by decide) ?_
      refine ih (up - 1) (by omega) ?_ (by omega) (fun j b1 b2 => ?_)
      · rcases Nat.lt_or_ge e4 (up - 1) with z | z
        · exact z
        · rw [show e4 = up - 1 by omega] at he4; exact absurd he4 hq
      · by_cases z : j = up - 1
        · subst z; omega
        · exact a4 j (by omega) b2
theorem so_two575 (hC : nd_Cx g mJ25_sort_2 X) (hlt : A < h.length) (hn : n ≤ 100000) {b lo hi e1 e2 e3 e4 e5 z : Nat} {p1 p2 : Int64} {f : Nat → Int64} {l7 l13 : Option Value} (hh : lo + 1 < hi) (hhn : hi ≤ n) (hpp : p1.toInt ≤ p2.toInt) (kk : ∀ lw up k u l23, lo ≤ lw → lw < up → up ≤ hi - 1 → k ≤ lw + 1 → pt_i lo (hi - 1) p1 p2 lw (lw + 1) up u → so_p lo hi f (pt_F lo (hi - 1) p1 p2 u) → nd_W g mJ25_sort_2 d mc ms K X 696 [some .null, some (.ref A), some (.int (nI b)), some (.int (nI lo)), some (.int (nI hi)), some (.int (nI (hi - 1))), some (.int (nI (hi - lo))), l7, some (.int (nI e1)), some (.int (nI e5)), some (.int (nI e3)), some (.int (nI e2)), some (.int (nI e4)), l13, none, some (.int (nI lw)), some (.int (nI up)), some (.long p1), none, some (.long p2), none, some (.int (nI z)), some (.int (nI (k - 1))), l23, none] [] (h.set A (.inl (1, n, .inr (.inl (u))))) cs ss) : ∀ t lw k up u l23, k ≤ t + lo → lo ≤ lw → lw ≤ k → lw < up → lo < k → k ≤ up → up ≤ hi - 1 → pt_i lo (hi - 1) p1 p2 lw k up u → so_p lo hi f (pt_F lo (hi - 1) p1 p2 u) → nd_W g mJ25_sort_2 d mc ms K X 575 [some .null, some (.ref A), some (.int (nI b)), some (.int (nI lo)), some (.int (nI hi)), some (.int (nI (hi - 1))), some (.int (nI (hi - lo))), l7, some (.int (nI e1)), some (.int (nI e5)), some (.int (nI e3)), some (.int (nI e2)), some (.int (nI e4)), l13, none, some (.int (nI lw)), some (.int (nI up)), some (.long p1), none, some (.long p2), none, some (.int (nI z)), some (.int (nI k)), l23, none] [] (h.set A (.inl (1, n, .inr (.inl (u))))) cs ss := by
  intro t
  induction t with
  | zero => intro lw k up u l23 a1 a2 a3 a4 a5; omega
  | succ t ih =>
    intro lw k up u l23 a1 a2 a3 a4 a5 a6 a7 hi0 hp
    obtain ⟨i1, i2, i3⟩ := id hi0
    first | with_reducible refine nd_iincN hC dJ25_sort_2_575 rfl (Nat.le_of_ble_eq_true rfl) ?_ | refine nd_iinc hC dJ25_sort_2_575 rfl rfl (Nat.le_of_ble_eq_true rfl) ?_
    rw [i_dec, show nI k = nI (k - 1 + 1) by rw [Nat.sub_add_cancel (by omega)], i_pred (by omega)]
    refine nd_iload hC dJ25_sort_2_578 rfl ?_
    refine nd_iload hC dJ25_sort_2_580 rfl ?_
    first | with_reducible refine nd_icmp_leN hC (tgt := 696) (by omega) (by omega) dJ25_sort_2_582 (by decide) (fun hq => ?_) (fun hq => ?_) | refine nd_icmp_le hC (tgt := 696) dJ25_sort_2_582 (by decide) (fun hq => ?_) (fun hq => ?_)
    · exact kk lw up k u _ a2 a4 a7 (by omega) ⟨i1, fun j b1 b2 b3 => i2 j (by omega) b2 b3, i3⟩ hp
    generalize hk1 : k - 1 = k1
    have hkk : k = k1 + 1 := by omega
    subst hkk
    generalize hak : u k1 = ak
    have J693 : ∀ lw2 up2 u2, lo ≤ lw2 → lw2 ≤ k1 → lw2 < up2 → k1 ≤ up2 → up2 ≤ hi - 1 → pt_i lo (hi - 1) p1 p2 lw2 k1 up2 u2 → so_p lo hi f (pt_F lo (hi - 1) p1 p2 u2) → nd_W g mJ25_sort_2 d mc ms K X 693 [some .null, some (.ref A), some (.int (nI b)), some (.int (nI lo)), some (.int (nI hi)), some (.int (nI (hi - 1))), some (.int (nI (hi - lo))), l7, some (.int (nI e1)), some (.int (nI e5)), some (.int (nI e3)), some (.int (nI e2)), some (.int (nI e4)), l13, none, some (.int (nI lw2)), some (.int (nI up2)), some (.long p1), none, some (.long p2), none, some (.int (nI z)), some (.int (nI k1)), some (.long ak), none] [] (h.set A (.inl (1, n, .inr (.inl (u2))))) cs ss := by
      intro lw2 up2 u2 b1 b2 b3 b4 b5 b6 b7
      refine nd_goto hC (tgt := 575) dJ25_sort_2_693 (by decide) ?_
      exact ih lw2 k1 up2 u2 _ (by omega) b1 b2 b3 (by omega) b4 b5 b6 b7
    refine nd_aload_n hC dJ25_sort_2_585 rfl rfl ?_
    refine nd_iload hC dJ25_sort_2_586 rfl ?_
    refine nd_laloadN hC (List.getElem?_set_self hlt) (by omega) (by omega) dJ25_sort_2_588 ?_
    rw [hak]
    refine nd_lstore hC dJ25_sort_2_589 (Nat.le_of_ble_eq_true rfl) ?_
    refine nd_lload hC dJ25_sort_2_591 rfl ?_
    refine nd_lload hC dJ25_sort_2_593 rfl ?_
    refine nd_lcmp_ge hC (tgt := 668) dJ25_sort_2_595 dJ25_sort_2_596 (by decide) (fun hq2 => ?_) (fun hq2 => ?_)
    · rw [Int64.le_iff_toInt_le] at hq2
      refine nd_lload hC dJ25_sort_2_668 rfl ?_
      refine nd_lload hC dJ25_sort_2_670 rfl ?_
      refine nd_lcmp_le hC (tgt := 693) dJ25_sort_2_672 dJ25_sort_2_673 (by decide) (fun hq3 => ?_) (fun hq3 => ?_)
      · rw [Int64.le_iff_toInt_le] at hq3
        refine J693 lw up u a2 (by omega) a4 (by omega) a7 ⟨i1, fun j b1 b2 b3 => ?_, i3⟩ hp
        by_cases z : j = k1
        · subst z; rw [hak]; exact ⟨hq2, hq3⟩
        · exact i2 j (by omega) b2 b3
      · rw [Int64.le_iff_toInt_le] at hq3
        refine nd_aload_n hC dJ25_sort_2_676 rfl rfl ?_
        refine nd_iload hC dJ25_sort_2_677 rfl ?_
        refine nd_aload_n hC dJ25_sort_2_679 rfl rfl ?_
        first | with_reducible refine nd_iincN hC dJ25_sort_2_680 rfl (Nat.le_of_ble_eq_true rfl) ?_ | refine nd_iinc hC dJ25_sort_2_680 rfl rfl (Nat.le_of_ble_eq_true rfl) ?_
        rw [i_dec, show nI up = nI (up - 1 + 1) by rw [Nat.sub_add_cancel (by omega)], i_pred (by omega)]
        refine nd_iload hC dJ25_sort_2_683 rfl ?_
        refine nd_laloadN hC (List.getElem?_set_self hlt) (by omega) (by omega) dJ25_sort_2_685 ?_
        refine so_ast hC hlt hn (by omega) dJ25_sort_2_686 ?_
        refine nd_aload_n hC dJ25_sort_2_687 rfl rfl ?_
        refine nd_iload hC dJ25_sort_2_688 rfl ?_
        refine nd_lload hC dJ25_sort_2_690 rfl ?_
        refine so_ast hC hlt hn (by omega) dJ25_sort_2_692 ?_
        have hv1 : ∀ q, q ≠ up - 1 → q ≠ k1 → (vp_updL (vp_updL u k1 (u (up - 1))) (up - 1) ak) q = u q := fun q z1 z2 => by rw [uL_n z1, uL_n z2]
        refine J693 lw (up - 1) _ a2 (by omega) (by omega) (by omega) (by omega) ⟨fun j b1 b2 => ?_, fun j b1 b2 b3 => ?_, fun j b1 b2 => ?_⟩ (hp.trans (pt_swap (i := up - 1) (j := k1) (by omega) (by omega) (by omega) (by omega) (by omega) ?_ ?_ hv1))
        · rw [hv1 j (by omega) (by omega)]; exact i1 j b1 b2
        · by_cases z : j = k1
          · subst z
            rw [uL_n (by omega), uL_s]
            exact i2 (up - 1) (by omega) (by omega) (by omega)
          · rw [hv1 j (by omega) z]; exact i2 j (by omega) b2 (by omega)
        · by_cases z : j = up - 1
          · subst z; rw [uL_s]; omega
          · rw [hv1 j z (by omega)]; exact i3 j (by omega) b2
        · rw [uL_s, hak]
        · by_cases z : k1 = up - 1
          · rw [z, uL_s, ← hak, z]
          · rw [uL_n z, uL_s]
    · rw [Int64.le_iff_toInt_le] at hq2
      have LI : ∀ s lw2, lw2 + s = k1 → lw ≤ lw2 → (∀ j, lo < j → j ≤ lw2 → (u j).toInt < p1.toInt) → nd_W g mJ25_sort_2 d mc ms K X 599 [some .null, some (.ref A), some (.int (nI b)), some (.int (nI lo)), some (.int (nI hi)), some (.int (nI (hi - 1))), some (.int (nI (hi - lo))), l7, some (.int (nI e1)), some (.int (nI e5)), some (.int (nI e3)), some (.int (nI e2)), some (.int (nI e4)), l13, none, some (.int (nI lw2)), some (.int (nI up)), some (.long p1), none, some (.long p2), none, some (.int (nI z)), some (.int (nI k1)), some (.long ak), none] [] (h.set A (.inl (1, n, .inr (.inl (u))))) cs ss := by
        intro s
        induction s with
        | zero =>
          intro lw2 b1 b2 b3
          refine nd_iload hC dJ25_sort_2_599 rfl ?_
          refine nd_iload hC dJ25_sort_2_601 rfl ?_
          first | with_reducible refine nd_icmp_geN hC (tgt := 693) (by omega) (by omega) dJ25_sort_2_603 (by decide) (fun hq3 => ?_) (fun hq3 => ?_) | refine nd_icmp_ge hC (tgt := 693) dJ25_sort_2_603 (by decide) (fun hq3 => ?_) (fun hq3 => ?_)
          · exact J693 lw2 up u (by omega) (by omega) (by omega) (by omega) a7 ⟨b3, fun j c1 c2 c3 => i2 j (by omega) (by omega) c3, i3⟩ hp
          · omega
        | succ s ih2 =>
          intro lw2 b1 b2 b3
          refine nd_iload hC dJ25_sort_2_599 rfl ?_
          refine nd_iload hC dJ25_sort_2_601 rfl ?_
          first | with_reducible refine nd_icmp_geN hC (tgt := 693) (by omega) (by omega) dJ25_sort_2_603 (by decide) (fun hq3 => ?_) (fun hq3 => ?_) | refine nd_icmp_ge hC (tgt := 693) dJ25_sort_2_603 (by decide) (fun hq3 => ?_) (fun hq3 => ?_)
          · omega
          refine nd_aload_n hC dJ25_sort_2_606 rfl rfl ?_
          first | with_reducible refine nd_iincN hC dJ25_sort_2_607 rfl (Nat.le_of_ble_eq_true rfl) ?_ | refine nd_iinc hC dJ25_sort_2_607 rfl rfl (Nat.le_of_ble_eq_true rfl) ?_
          refine nd_iload hC dJ25_sort_2_610 rfl ?_
          refine nd_laloadN hC (List.getElem?_set_self hlt) (by omega) (by omega) dJ25_sort_2_612 ?_
          refine nd_lload hC dJ25_sort_2_613 rfl ?_
          refine nd_lcmp_lt hC (tgt := 599) dJ25_sort_2_615 dJ25_sort_2_616 (by decide) (fun hq4 => ?_) (fun hq4 => ?_)
          · rw [Int64.lt_iff_toInt_lt] at hq4
            refine ih2 (lw2 + 1) (by omega) (by omega) (fun j c1 c2 => ?_)
            by_cases z : j = lw2 + 1
            · subst z; exact hq4
            · exact b3 j c1 (by omega)
          · rw [Int64.lt_iff_toInt_lt] at hq4
            generalize hq9 : lw2 + 1 = q
            rw [hq9] at hq4
            have hqk : q < k1 := by
              rcases Nat.lt_or_ge q k1 with z | z
              · exact z
              · rw [show q = k1 by omega, hak] at hq4; omega
            refine nd_aload_n hC dJ25_sort_2_619 rfl rfl ?_
            refine nd_iload hC dJ25_sort_2_620 rfl ?_
            refine nd_laloadN hC (List.getElem?_set_self hlt) (by omega) (by omega) dJ25_sort_2_622 ?_
            refine nd_lload hC dJ25_sort_2_623 rfl ?_
            refine nd_lcmp_le hC (tgt := 651) dJ25_sort_2_625 dJ25_sort_2_626 (by decide) (fun hq5 => ?_) (fun hq5 => ?_)
            · rw [Int64.le_iff_toInt_le] at hq5
              refine nd_aload_n hC dJ25_sort_2_651 rfl rfl ?_
              refine nd_iload hC dJ25_sort_2_652 rfl ?_
              refine nd_aload_n hC dJ25_sort_2_654 rfl rfl ?_
              refine nd_iload hC dJ25_sort_2_655 rfl ?_
              refine nd_laloadN hC (List.getElem?_set_self hlt) (by omega) (by omega) dJ25_sort_2_657 ?_
              refine so_ast hC hlt hn (by omega) dJ25_sort_2_658 ?_
              refine nd_aload_n hC dJ25_sort_2_659 rfl rfl ?_
              refine nd_iload hC dJ25_sort_2_660 rfl ?_
              refine nd_lload hC dJ25_sort_2_662 rfl ?_
              refine so_ast hC hlt hn (by omega) dJ25_sort_2_664 ?_
              refine nd_goto hC (tgt := 693) dJ25_sort_2_665 (by decide) ?_
              have hv1 : ∀ x, x ≠ q → x ≠ k1 → (vp_updL (vp_updL u k1 (u q)) q ak) x = u x := fun x z1 z2 => by rw [uL_n z1, uL_n z2]
              refine J693 q up _ (by omega) (by omega) (by omega) (by omega) a7 ⟨fun j c1 c2 => ?_, fun j c1 c2 c3 => ?_, fun j c1 c2 => ?_⟩ (hp.trans (pt_swap (i := q) (j := k1) (by omega) (by omega) (by omega) (by omega) (by omega) ?_ ?_ hv1))
              · by_cases z : j = q
                · subst z; rw [uL_s]; omega
                · rw [hv1 j z (by omega)]; exact b3 j c1 (by omega)
              · by_cases z : j = k1
                · subst z; rw [uL_n (by omega), uL_s]; omega
                · rw [hv1 j (by omega) z]; exact i2 j (by omega) (by omega) c3
              · rw [hv1 j (by omega) (by omega)]; exact i3 j c1 c2
              · rw [uL_s, hak]
              · rw [uL_n (by omega), uL_s]
            · rw [Int64.le_iff_toInt_le] at hq5
              refine nd_aload_n hC dJ25_sort_2_629 rfl rfl ?_
              refine nd_iload hC dJ25_sort_2_630 rfl ?_
              refine nd_aload_n hC dJ25_sort_2_632 rfl rfl ?_
              first | with_reducible refine nd_iincN hC dJ25_sort_2_633 rfl (Nat.le_of_ble_eq_true rfl) ?_ | refine nd_iinc hC dJ25_sort_2_633 rfl rfl (Nat.le_of_ble_eq_true rfl) ?_
              rw [i_dec, show nI up = nI (up - 1 + 1) by rw [Nat.sub_add_cancel (by omega)], i_pred (by omega)]
              refine nd_iload hC dJ25_sort_2_636 rfl ?_
              refine nd_laloadN hC (List.getElem?_set_self hlt) (by omega) (by omega) dJ25_sort_2_638 ?_
              refine so_ast hC hlt hn (by omega) dJ25_sort_2_639 ?_
              refine nd_aload_n hC dJ25_sort_2_640 rfl rfl ?_
              refine nd_iload hC dJ25_sort_2_641 rfl ?_
              refine nd_aload_n hC dJ25_sort_2_643 rfl rfl ?_
              refine nd_iload hC dJ25_sort_2_644 rfl ?_
              refine nd_laloadN hC (List.getElem?_set_self hlt) (by omega) (by omega) dJ25_sort_2_646 ?_
              refine so_ast hC hlt hn (by omega) dJ25_sort_2_647 ?_
              refine nd_goto hC (tgt := 659) dJ25_sort_2_648 (by decide) ?_
              refine nd_aload_n hC dJ25_sort_2_659 rfl rfl ?_
              refine nd_iload hC dJ25_sort_2_660 rfl ?_
              refine nd_lload hC dJ25_sort_2_662 rfl ?_
              refine so_ast hC hlt hn (by omega) dJ25_sort_2_664 ?_
              refine nd_goto hC (tgt := 693) dJ25_sort_2_665 (by decide) ?_
              generalize hU : vp_updL (vp_updL (vp_updL u k1 (u (up - 1))) (up - 1) (vp_updL u k1 (u (up - 1)) q)) q ak = U
              have v1 : U q = ak := by rw [← hU, uL_s]
              have v2 : U (up - 1) = u q := by rw [← hU, uL_n (by omega), uL_s, uL_n (by omega)]
              have v3 : k1 ≠ up - 1 → U k1 = u (up - 1) := fun z => by rw [← hU, uL_n (by omega), uL_n z, uL_s]
              have v4 : ∀ x, x ≠ q → x ≠ up - 1 → x ≠ k1 → U x = u x := fun x z1 z2 z3 => by rw [← hU, uL_n z1, uL_n z2, uL_n z3]
              refine J693 q (up - 1) _ (by omega) (by omega) (by omega) (by omega) (by omega) ⟨fun j c1 c2 => ?_, fun j c1 c2 c3 => ?_, fun j c1 c2 => ?_⟩ (hp.trans ?_)
              · by_cases z : j = q
                · subst z; rw [v1]; omega
                · rw [v4 j z (by omega) (by omega)]; exact b3 j c1 (by omega)
              · by_cases z : j = k1
                · subst z; rw [v3 (by omega)]; exact i2 (up - 1) (by omega) (by omega) (by omega)
                · rw [v4 j (by omega) (by omega) z]; exact i2 j (by omega) (by omega) (by omega)
              · by_cases z : j = up - 1
                · subst z; rw [v2]; omega
                · rw [v4 j (by omega) z (by omega)]; exact i3 j (by omega) c2
              · by_cases z : k1 = up - 1
                · refine pt_swap (i := q) (j := k1) (by omega) (by omega) (by omega) (by omega) (by omega) (by rw [v1, hak]) (by rw [z, v2]) (fun x z1 z2 => v4 x z1 (by omega) z2)
                · exact pt_cyc (i := q) (j := k1) (k := up - 1) (by omega) (by omega) (by omega) (by omega) (by omega) (by omega) (by omega) (by rw [v1, hak]) (v3 z) v2 (fun x z1 z2 z3 => v4 x z1 z3 z2)
      exact LI (k1 - lw) lw (by omega) (Nat.le_refl _) i1
/-- the whole partition by two pivots -/
theorem so_two (hC : nd_Cx g mJ25_sort_2 X) (hlt : A < h.length) (hn : n ≤ 100000) {b lo hi e1 e2 e3 e4 e5 : Nat} {f : Nat → Int64} {l7 l13 l17 l18 l19 l20 l21 l22 l23 l24 : Option Value} (h1 : lo < e1) (h2 : e1 < e2) (h3 : e2 < e3) (h4 : e3 < e4) (h5 : e4 < e5) (h6 : e5 + 1 < hi) (h7 : hi ≤ n) (q1 : (f e1).toInt < (f e2).toInt) (q2 : (f e2).toInt < (f e4).toInt) (q3 : (f e4).toInt < (f e5).toInt) (kk : ∀ f2 lw up l21 l22 l23, lo ≤ lw → lw < up → up < hi → so_p lo hi f f2 → (∀ j, lo ≤ j → j < lw → (f2 j).toInt ≤ (f2 lw).toInt) → (∀ j, lw < j → j < up → (f2 lw).toInt ≤ (f2 j).toInt ∧ (f2 j).toInt ≤ (f2 up).toInt) → (f2 lw).toInt ≤ (f2 up).toInt → (∀ j, up < j → j < hi → (f2 up).toInt ≤ (f2 j).toInt) → nd_W g mJ25_sort_2 d mc ms K X 764 [some .null, some (.ref A), some (.int (nI b)), some (.int (nI lo)), some (.int (nI hi)), some (.int (nI (hi - 1))), some (.int (nI (hi - lo))), l7, some (.int (nI e1)), some (.int (nI e5)), some (.int (nI e3)), some (.int (nI e2)), some (.int (nI e4)), l13, none, some (.int (nI lw)), some (.int (nI up)), some (.long (f e1)), none, some (.long (f e5)), none, l21, l22, l23, none] [] (h.set A (.inl (1, n, .inr (.inl (f2))))) cs ss) : nd_W g mJ25_sort_2 d mc ms K X 501 [some .null, some (.ref A), some (.int (nI b)), some (.int (nI lo)), some (.int (nI hi)), some (.int (nI (hi - 1))), some (.int (nI (hi - lo))), l7, some (.int (nI e1)), some (.int (nI e5)), some (.int (nI e3)), some (.int (nI e2)), some (.int (nI e4)), l13, none, some (.int (nI lo)), some (.int (nI (hi - 1))), l17, l18, l19, l20, l21, l22, l23, l24] [] (h.set A (.inl (1, n, .inr (.inl (f))))) cs ss := by
  generalize hp1 : f e1 = p1
  generalize hp2 : f e5 = p2
  rw [hp1] at q1
  rw [hp2] at q3
  rw [hp1, hp2] at kk
  refine nd_aload_n hC dJ25_sort_2_501 rfl rfl ?_
  refine nd_iload hC dJ25_sort_2_502 rfl ?_
  refine nd_laloadN hC (List.getElem?_set_self hlt) (by omega) (by omega) dJ25_sort_2_504 ?_
  rw [hp1]
  refine nd_lstore hC dJ25_sort_2_505 (Nat.le_of_ble_eq_true rfl) ?_
  refine nd_aload_n hC dJ25_sort_2_507 rfl rfl ?_
  refine nd_iload hC dJ25_sort_2_508 rfl ?_
  refine nd_laloadN hC (List.getElem?_set_self hlt) (by omega) (by omega) dJ25_sort_2_510 ?_
  rw [hp2]
  refine nd_lstore hC dJ25_sort_2_511 (Nat.le_of_ble_eq_true rfl) ?_
  refine nd_aload_n hC dJ25_sort_2_513 rfl rfl ?_
  refine nd_iload hC dJ25_sort_2_514 rfl ?_
  refine nd_aload_n hC dJ25_sort_2_516 rfl rfl ?_
  refine nd_iload hC dJ25_sort_2_517 rfl ?_
  refine nd_laloadN hC (List.getElem?_set_self hlt) (by omega) (by omega) dJ25_sort_2_519 ?_
  refine so_ast hC hlt hn (by omega) dJ25_sort_2_520 ?_
  refine nd_aload_n hC dJ25_sort_2_521 rfl rfl ?_
  refine nd_iload hC dJ25_sort_2_522 rfl ?_
  refine nd_aload_n hC dJ25_sort_2_524 rfl rfl ?_
  refine nd_iload hC dJ25_sort_2_525 rfl ?_
  refine nd_laloadN hC (List.getElem?_set_self hlt) (by omega) (by omega) dJ25_sort_2_527 ?_
  refine so_ast hC hlt hn (by omega) dJ25_sort_2_528 ?_
  generalize hU : vp_updL (vp_updL f e1 (f lo)) e5 (vp_updL f e1 (f lo) (hi - 1)) = U
  have u1 : U e1 = f lo := by rw [← hU, uL_n (by omega), uL_s]
  have u5 : U e5 = f (hi - 1) := by rw [← hU, uL_s, uL_n (by omega)]
  have uo : ∀ x, x ≠ e1 → x ≠ e5 → U x = f x := fun x z1 z2 => by rw [← hU, uL_n z2, uL_n z1]
  have hp : so_p lo hi f (pt_F lo (hi - 1) p1 p2 U) := by
    have s1 : so_p lo hi f (vp_updL (vp_updL f e1 (f lo)) lo p1) := so_p.swap (i := lo) (j := e1) (by omega) (by omega) (by omega) (by omega) (by rw [uL_s, hp1]) (by rw [uL_n (by omega), uL_s]) (fun q z1 z2 => by rw [uL_n z1, uL_n z2])
    refine s1.trans (so_p.swap (i := hi - 1) (j := e5) (by omega) (by omega) (by omega) (by omega) ?_ ?_ (fun q z1 z2 => ?_))
    · rw [pt_F_en, uL_n (by omega), uL_n (by omega), hp2]
    · rw [pt_F_n (by omega) (by omega), u5, uL_n (by omega), uL_n (by omega)]
    · by_cases z : q = lo
      · subst z; rw [pt_F_lo (by omega), uL_s]
      · rw [pt_F_n z z1, uL_n z]
        by_cases z3 : q = e1
        · subst z3; rw [u1, uL_s]
        · rw [uo q z3 z2, uL_n z3]
  refine so_two529 hC hlt hn (e2 := e2) (by omega) (by omega) (by rw [uo e2 (by omega) (by omega)]; omega) (fun lw a1 a2 a3 => ?_) (e2 - lo) lo (by omega) (Nat.le_refl _) (by omega) (fun j b1 b2 => by omega)
  refine so_two545 hC hlt hn (e4 := e4) (en := hi - 1) (by omega) (by omega) (by rw [uo e4 (by omega) (by omega)]; omega) (fun up c1 c2 c3 => ?_) (hi - 1 - e4) (hi - 1) (by omega) (by omega) (Nat.le_refl _) (fun j b1 b2 => by omega)
  first | with_reducible refine nd_iincN hC dJ25_sort_2_561 rfl (Nat.le_of_ble_eq_true rfl) ?_ | refine nd_iinc hC dJ25_sort_2_561 rfl rfl (Nat.le_of_ble_eq_true rfl) ?_
  rw [i_dec, i_pred (by omega)]
  refine nd_iload hC dJ25_sort_2_564 rfl ?_
  refine nd_istore hC dJ25_sort_2_566 (Nat.le_of_ble_eq_true rfl) ?_
  first | with_reducible refine nd_iincN hC dJ25_sort_2_568 rfl (Nat.le_of_ble_eq_true rfl) ?_ | refine nd_iinc hC dJ25_sort_2_568 rfl rfl (Nat.le_of_ble_eq_true rfl) ?_
  refine nd_iload hC dJ25_sort_2_571 rfl ?_
  refine nd_istore hC dJ25_sort_2_573 (Nat.le_of_ble_eq_true rfl) ?_
  rw [Nat.sub_add_cancel (by omega)]
  refine nd_drop 24 ?_
  refine so_two575 hC hlt hn (f := f) (by omega) h7 (by omega) (fun lw9 up9 k9 u9 l23 b1 b2 b3 b4 b5 b6 => ?_) up lw up up U _ (by omega) a1 (by omega) (by omega) (by omega) (Nat.le_refl _) c2 ⟨a3, fun j b1 b2 b3 => by omega, c3⟩ hp
  have E := pt_end (hi := hi) (by omega) (by omega) b1 b2 b3 b5
  obtain ⟨m1, m2, m3, m4, m5, m6⟩ := E
  refine nd_aload_n hC dJ25_sort_2_696 rfl rfl ?_
  refine nd_iload_n hC dJ25_sort_2_697 rfl ?_
  refine nd_aload_n hC dJ25_sort_2_698 rfl rfl ?_
  refine nd_iload hC dJ25_sort_2_699 rfl ?_
  refine nd_laloadN hC (List.getElem?_set_self hlt) (by omega) (by omega) dJ25_sort_2_701 ?_
  refine so_ast hC hlt hn (by omega) dJ25_sort_2_702 ?_
  refine nd_aload_n hC dJ25_sort_2_703 rfl rfl ?_
  refine nd_iload hC dJ25_sort_2_704 rfl ?_
  refine nd_lload hC dJ25_sort_2_706 rfl ?_
  refine so_ast hC hlt hn (by omega) dJ25_sort_2_708 ?_
  refine nd_aload_n hC dJ25_sort_2_709 rfl rfl ?_
  refine nd_iload hC dJ25_sort_2_710 rfl ?_
  refine nd_aload_n hC dJ25_sort_2_712 rfl rfl ?_
  refine nd_iload hC dJ25_sort_2_713 rfl ?_
  refine nd_laloadN hC (List.getElem?_set_self hlt) (by omega) (by omega) dJ25_sort_2_715 ?_
  refine so_ast hC hlt hn (by omega) dJ25_sort_2_716 ?_
  refine nd_aload_n hC dJ25_sort_2_717 rfl rfl ?_
  refine nd_iload hC dJ25_sort_2_718 rfl ?_
  refine nd_lload hC dJ25_sort_2_720 rfl ?_
  refine so_ast hC hlt hn (by omega) dJ25_sort_2_722 ?_
  generalize hG : vp_updL (vp_updL (vp_updL (vp_updL u9 lo (u9 lw9)) lw9 p1) (hi - 1) (vp_updL (vp_updL u9 lo (u9 lw9)) lw9 p1 up9)) up9 p2 = G
  rw [hG] at m1 m2 m3 m4 m5 m6
  have F := kk G lw9 up9
  rw [m3, m5] at F
  refine nd_iload hC dJ25_sort_2_723 rfl ?_
  refine nd_sipush hC (v := nI 4096) (by rfl) dJ25_sort_2_725 ?_
  first | with_reducible refine nd_icmp_leN hC (tgt := 764) (by omega) (by omega) dJ25_sort_2_728 (by decide) (fun hq5 => ?_) (fun hq5 => ?_) | refine nd_icmp_le hC (tgt := 764) dJ25_sort_2_728 (by decide) (fun hq5 => ?_) (fun hq5 => ?_)
  · exact F _ _ _ b1 b2 (by omega) (b6.trans m1) m2 m4 (by omega) m6
  · refine nd_aload_n hC dJ25_sort_2_731 rfl rfl ?_
    refine nd_isnullN hC (tgt := 764) dJ25_sort_2_732 (by decide) ?_
    exact F _ _ _ b1 b2 (by omega) (b6.trans m1) m2 m4 (by omega) m6
end SO9908

