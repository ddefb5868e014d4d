set_option maxRecDepth 100000
/-! ===== partition by one pivot ===== -/
theorem ps_swap {lo hi i j : Nat} {p : Int64} {u u2 : Nat → Int64} (h1 : lo < i) (h2 : i < hi) (h3 : lo < j) (h4 : j < hi) (e1 : u2 i = u j) (e2 : u2 j = u i) (e : ∀ q, q ≠ i → q ≠ j → u2 q = u q) : so_p lo hi (vp_updL u lo p) (vp_updL u2 lo p) := by
  refine so_p.swap (i := i) (j := j) (by omega) (by omega) (by omega) (by omega) ?_ ?_ (fun q z1 z2 => ?_)
  · rw [uL_n (by omega), uL_n (by omega), e1]
  · rw [uL_n (by omega), uL_n (by omega), e2]
  · by_cases q1 : q = lo
    · subst q1; rw [uL_s, uL_s]
    · rw [uL_n q1, uL_n q1, e q z1 z2]
theorem ps_cyc {lo hi i j k : Nat} {p : Int64} {u u2 : Nat → Int64} (h1 : lo < i) (h2 : i < hi) (h3 : lo < j) (h4 : j < hi) (h5 : lo < k) (h6 : k < hi) (e1 : u2 i = u j) (e2 : u2 j = u k) (e3 : u2 k = u i) (e : ∀ q, q ≠ i → q ≠ j → q ≠ k → u2 q = u q) : so_p lo hi (vp_updL u lo p) (vp_updL u2 lo p) := by
  refine so_p.cyc (i := i) (j := j) (k := k) (by omega) (by omega) (by omega) (by omega) (by omega) (by omega) ?_ ?_ ?_ (fun q z1 z2 z3 => ?_)
  · rw [uL_n (by omega), uL_n (by omega), e1]
  · rw [uL_n (by omega), uL_n (by omega), e2]
  · rw [uL_n (by omega), uL_n (by omega), e3]
  · by_cases q1 : q = lo
    · subst q1; rw [uL_s, uL_s]
    · rw [uL_n q1, uL_n q1, e q z1 z2 z3]
def ps_i (lo hi : Nat) (p : Int64) (lw k up : Nat) (u : Nat → Int64) : Prop := (∀ j, lo < j → j ≤ lw → (u j).toInt < p.toInt) ∧ (∀ j, k ≤ j → lw < j → j < up → u j = p) ∧ ∀ j, up ≤ j → j < hi → p.toInt < (u j).toInt
section SO9909
variable {g : nd_G} {d mc ms cs ss : Nat} {K : nd_K} {X : nd_X} {h : nd_H} {A n : Nat}
theorem so_one816 (hC : nd_Cx g mJ25_sort_2 X) (hlt : A < h.length) (hn : n ≤ 100000) {b lo hi e1 e2 e3 e4 e5 : Nat} {p : Int64} {f : Nat → Int64} {l7 l13 l22 l23 l24 : Option Value} (hh : lo < hi) (hhn : hi ≤ n) (kk : ∀ lw up k u l20, lo ≤ lw → lw < up → up ≤ hi → ps_i lo hi p lw (lw + 1) up u → so_p lo hi f (vp_updL u lo p) → nd_W g mJ25_sort_2 d mc ms K X 912 [some .null, some (.ref A), some (.int (nI b)), some (.int (nI lo)), some (.int (nI hi)), some (.int (nI (hi - 1))), some (.int (nI (hi - lo))), l7, some (.int (nI e1)), some (.int (nI e5)), some (.int (nI e3)), some (.int (nI e2)), some (.int (nI e4)), l13, none, some (.int (nI lw)), some (.int (nI up)), some (.long p), none, some (.int (nI (k - 1))), l20, none, l22, l23, l24] [] (h.set A (.inl (1, n, .inr (.inl (u))))) cs ss) : ∀ t lw k up u l20, k ≤ t + lo → lo ≤ lw → lw ≤ k → lw < up → lo < k → k ≤ up → up ≤ hi → ps_i lo hi p lw k up u → so_p lo hi f (vp_updL u lo p) → nd_W g mJ25_sort_2 d mc ms K X 816 [some .null, some (.ref A), some (.int (nI b)), some (.int (nI lo)), some (.int (nI hi)), some (.int (nI (hi - 1))), some (.int (nI (hi - lo))), l7, some (.int (nI e1)), some (.int (nI e5)), some (.int (nI e3)), some (.int (nI e2)), some (.int (nI e4)), l13, none, some (.int (nI lw)), some (.int (nI up)), some (.long p), none, some (.int (nI k)), l20, none, l22, l23, l24] [] (h.set A (.inl (1, n, .inr (.inl (u))))) cs ss := by
  intro t
  induction t with
  | zero => intro lw k up u l20 a1 a2 a3 a4 a5; omega
  | succ t ih =>
    intro lw k up u l20 a1 a2 a3 a4 a5 a6 a7 hi0 hp
    obtain ⟨i1, i2, i3⟩ := id hi0
    first | with_reducible refine nd_iincN hC dJ25_sort_2_816 rfl (Nat.le_of_ble_eq_true rfl) ?_ | refine nd_iinc hC dJ25_sort_2_816 rfl rfl (Nat.le_of_ble_eq_true rfl) ?_
    rw [i_dec, show nI k = nI (k - 1 + 1) by rw [Nat.sub_add_cancel (by omega)], i_pred (by omega)]
    refine nd_iload hC dJ25_sort_2_819 rfl ?_
    refine nd_iload hC dJ25_sort_2_821 rfl ?_
    first | with_reducible refine nd_icmp_leN hC (tgt := 912) (by omega) (by omega) dJ25_sort_2_823 (by decide) (fun hq => ?_) (fun hq => ?_) | refine nd_icmp_le hC (tgt := 912) dJ25_sort_2_823 (by decide) (fun hq => ?_) (fun hq => ?_)
    · exact kk lw up k u _ a2 a4 a7 ⟨i1, fun j b1 b2 b3 => i2 j (by omega) b2 b3, i3⟩ hp
    generalize hk1 : k - 1 = k1
    have hkk : k = k1 + 1 := by omega
    subst hkk
    generalize hak : u k1 = ak
    have J909 : ∀ lw2 up2 u2, lo ≤ lw2 → lw2 ≤ k1 → lw2 < up2 → k1 ≤ up2 → up2 ≤ hi → ps_i lo hi p lw2 k1 up2 u2 → so_p lo hi f (vp_updL u2 lo p) → nd_W g mJ25_sort_2 d mc ms K X 909 [some .null, some (.ref A), some (.int (nI b)), some (.int (nI lo)), some (.int (nI hi)), some (.int (nI (hi - 1))), some (.int (nI (hi - lo))), l7, some (.int (nI e1)), some (.int (nI e5)), some (.int (nI e3)), some (.int (nI e2)), some (.int (nI e4)), l13, none, some (.int (nI lw2)), some (.int (nI up2)), some (.long p), none, some (.int (nI k1)), some (.long ak), none, l22, l23, l24] [] (h.set A (.inl (1, n, .inr (.inl (u2))))) cs ss := by
      intro lw2 up2 u2 b1 b2 b3 b4 b5 b6 b7
      refine nd_goto hC (tgt := 816) dJ25_sort_2_909 (by decide) ?_
      exact ih lw2 k1 up2 u2 _ (by omega) b1 b2 b3 (by omega) b4 b5 b6 b7
    refine nd_aload_n hC dJ25_sort_2_826 rfl rfl ?_
    refine nd_iload hC dJ25_sort_2_827 rfl ?_
    refine nd_laloadN hC (List.getElem?_set_self hlt) (by omega) (by omega) dJ25_sort_2_829 ?_
    rw [hak]
    refine nd_lstore hC dJ25_sort_2_830 (Nat.le_of_ble_eq_true rfl) ?_
    refine nd_lload hC dJ25_sort_2_832 rfl ?_
    refine nd_lload hC dJ25_sort_2_834 rfl ?_
    refine nd_lcmp_eq hC (tgt := 909) dJ25_sort_2_836 dJ25_sort_2_837 (by decide) (fun hq2 => ?_) (fun hq2 => ?_)
    · subst hq2
      refine J909 lw up u a2 (by omega) a4 (by omega) a7 ⟨i1, fun j b1 b2 b3 => ?_, i3⟩ hp
      by_cases z : j = k1
      · subst z; exact hak
      · exact i2 j (by omega) b2 b3
    have hne : ak.toInt ≠ p.toInt := fun z => hq2 (Int64.toInt_inj.mp z)
    refine nd_aload_n hC dJ25_sort_2_840 rfl rfl ?_
    refine nd_iload hC dJ25_sort_2_841 rfl ?_
    refine nd_lload hC dJ25_sort_2_843 rfl ?_
    refine so_ast hC hlt hn (by omega) dJ25_sort_2_845 ?_
    refine nd_lload hC dJ25_sort_2_846 rfl ?_
    refine nd_lload hC dJ25_sort_2_848 rfl ?_
    refine nd_lcmp_ge hC (tgt := 900) dJ25_sort_2_850 dJ25_sort_2_851 (by decide) (fun hq3 => ?_) (fun hq3 => ?_)
    · rw [Int64.le_iff_toInt_le] at hq3
      refine nd_aload_n hC dJ25_sort_2_900 rfl rfl ?_
      first | with_reducible refine nd_iincN hC dJ25_sort_2_901 rfl (Nat.le_of_ble_eq_true rfl) ?_ | refine nd_iinc hC dJ25_sort_2_901 rfl rfl (Nat.le_of_ble_eq_true rfl) ?_
      rw [i_dec, show nI up = nI (up - 1 + 1) by rw [Nat.sub_add_cancel (by omega)], i_pred (by omega)]
      refine nd_iload hC dJ25_sort_2_904 rfl ?_
      refine nd_lload hC dJ25_sort_2_906 rfl ?_
      refine so_ast hC hlt hn (by omega) dJ25_sort_2_908 ?_
      generalize hU : vp_updL (vp_updL u k1 p) (up - 1) ak = U
      have v1 : U (up - 1) = ak := by rw [← hU, uL_s]
      have v2 : k1 ≠ up - 1 → U k1 = p := fun z => by rw [← hU, uL_n z, uL_s]
      have v3 : ∀ x, x ≠ up - 1 → x ≠ k1 → U x = u x := fun x z1 z2 => by rw [← hU, uL_n z1, uL_n z2]
      refine J909 lw (up - 1) U a2 (by omega) (by omega) (by omega) (by omega) ⟨fun j b1 b2 => ?_, fun j b1 b2 b3 => ?_, fun j b1 b2 => ?_⟩ (hp.trans (ps_swap (i := up - 1) (j := k1) (by omega) (by omega) (by omega) (by omega) (by rw [v1, hak]) ?_ v3))
      · rw [v3 j (by omega) (by omega)]; exact i1 j b1 b2
      · by_cases z : j = k1
        · subst z; exact v2 (by omega)
        · rw [v3 j (by omega) z]; exact i2 j (by omega) b2 (by omega)
      · by_cases z : j = up - 1
        · subst z; rw [v1]; omega
        · rw [v3 j z (by omega)]; exact i3 j (by omega) b2
      · by_cases z : k1 = up - 1
        · rw [z, v1, ← hak, z]
        · rw [v2 z]; exact (i2 (up - 1) (by omega) (by omega) (by omega)).symm
    · rw [Int64.le_iff_toInt_le] at hq3
      have LI : ∀ s lw2, lw2 + s + 1 = k1 → lw ≤ lw2 → (∀ j, lo < j → j ≤ lw2 → (u j).toInt < p.toInt) → nd_W g mJ25_sort_2 d mc ms K X 854 [some .null, some (.ref A), some (.int (nI b)), some (.int (nI lo)), some (.int (nI hi)), some (.int (nI (hi - 1))), some (.int (nI (hi - lo))), l7, some (.int (nI e1)), some (.int (nI e5)), some (.int (nI e3)), some (.int (nI e2)), some (.int (nI e4)), l13, none, some (.int (nI lw2)), some (.int (nI up)), some (.long p), none, some (.int (nI k1)), some (.long ak), none, l22, l23, l24] [] (h.set A (.inl (1, n, .inr (.inl (vp_updL u k1 p))))) cs ss := by
        intro s
        have done : ∀ q, lo < q → lw < q → q ≤ k1 → (∀ j, lo < j → j < q → (u j).toInt < p.toInt) → p.toInt ≤ (vp_updL u k1 p q).toInt → nd_W g mJ25_sort_2 d mc ms K X 870 [some .null, some (.ref A), some (.int (nI b)), some (.int (nI lo)), some (.int (nI hi)), some (.int (nI (hi - 1))), some (.int (nI (hi - lo))), l7, some (.int (nI e1)), some (.int (nI e5)), some (.int (nI e3)), some (.int (nI e2)), some (.int (nI e4)), l13, none, some (.int (nI q)), some (.int (nI up)), some (.long p), none, some (.int (nI k1)), some (.long ak), none, l22, l23, l24] [] (h.set A (.inl (1, n, .inr (.inl (vp_updL u k1 p))))) cs ss := by
          intro q b0 b0' b1 b2 b3
          refine nd_aload_n hC dJ25_sort_2_870 rfl rfl ?_
          refine nd_iload hC dJ25_sort_2_871 rfl ?_
          refine nd_laloadN hC (List.getElem?_set_self hlt) (by omega) (by omega) dJ25_sort_2_873 ?_
          refine nd_lload hC dJ25_sort_2_874 rfl ?_
          refine nd_lcmp_le hC (tgt := 891) dJ25_sort_2_876 dJ25_sort_2_877 (by decide) (fun hq5 => ?_) (fun hq5 => ?_)
          · rw [Int64.le_iff_toInt_le] at hq5
            have hqp : vp_updL u k1 p q = p := Int64.toInt_inj.mp (by omega)
            refine nd_aload_n hC dJ25_sort_2_891 rfl rfl ?_
            refine nd_iload hC dJ25_sort_2_892 rfl ?_
            refine nd_lload hC dJ25_sort_2_894 rfl ?_
            refine so_ast hC hlt hn (by omega) dJ25_sort_2_896 ?_
            refine nd_goto hC (tgt := 909) dJ25_sort_2_897 (by decide) ?_
            generalize hU : vp_updL (vp_updL u k1 p) q ak = U
            have v1 : U q = ak := by rw [← hU, uL_s]
            have v2 : k1 ≠ q → U k1 = p := fun z => by rw [← hU, uL_n z, uL_s]
            have v3 : ∀ x, x ≠ q → x ≠ k1 → U x = u x := fun x z1 z2 => by rw [← hU, uL_n z1, uL_n z2]
            refine J909 q up U (by omega) b1 (by omega) (by omega) a7 ⟨fun j c1 c2 => ?_, fun j c1 c2 c3 => ?_, fun j c1 c2 => ?_⟩ (hp.trans (ps_swap (i := q) (j := k1) b0 (by omega) (by omega) (by omega) (by rw [v1, hak]) ?_ v3))
            · by_cases z : j = q
              · subst z; rw [v1]; omega
              · rw [v3 j z (by omega)]; exact b2 j c1 (by omega)
            · by_cases z : j = k1
              · subst z; exact v2 (by omega)
              · rw [v3 j (by omega) z]; exact i2 j (by omega) (by omega) c3
            · rw [v3 j (by omega) (by omega)]; exact i3 j c1 c2
            · by_cases z : k1 = q
              · rw [z, v1, ← hak, z]
              · rw [v2 z, ← hqp, uL_n (Ne.symm z)]
          · rw [Int64.le_iff_toInt_le] at hq5
            have hqk : q ≠ k1 := fun z => by rw [z, uL_s] at hq5; omega
            rw [uL_n hqk] at hq5
            refine nd_aload_n hC dJ25_sort_2_880 rfl rfl ?_
            first | with_reducible refine nd_iincN hC dJ25_sort_2_881 rfl (Nat.le_of_ble_eq_true rfl) ?_ | refine nd_iinc hC dJ25_sort_2_881 rfl rfl (Nat.le_of_ble_eq_true rfl) ?_
            rw [i_dec, show nI up = nI (up - 1 + 1) by rw [Nat.sub_add_cancel (by omega)], i_pred (by omega)]
            refine nd_iload hC dJ25_sort_2_884 rfl ?_
            refine nd_aload_n hC dJ25_sort_2_886 rfl rfl ?_
            refine nd_iload hC dJ25_sort_2_887 rfl ?_
            refine nd_laloadN hC (List.getElem?_set_self hlt) (by omega) (by omega) dJ25_sort_2_889 ?_
            refine so_ast hC hlt hn (by omega) dJ25_sort_2_890 ?_
            refine nd_aload_n hC dJ25_sort_2_891 rfl rfl ?_
            refine nd_iload hC dJ25_sort_2_892 rfl ?_
            refine nd_lload hC dJ25_sort_2_894 rfl ?_
            refine so_ast hC hlt hn (by omega) dJ25_sort_2_896 ?_
            refine nd_goto hC (tgt := 909) dJ25_sort_2_897 (by decide) ?_
            generalize hU : vp_updL (vp_updL (vp_updL u k1 p) (up - 1) (vp_updL u k1 p q)) q ak = U
            have v1 : U q = ak := by rw [← hU, uL_s]
            have v2 : U (up - 1) = u q := by rw [← hU, uL_n (by omega), uL_s, uL_n hqk]
            have v3 : k1 ≠ up - 1 → U k1 = p := fun z => by rw [← hU, uL_n (Ne.symm hqk), uL_n z, uL_s]
            have v4 : ∀ x, x ≠ q → x ≠ up - 1 → x ≠ k1 → U x = u x := fun x z1 z2 z3 => by rw [← hU, uL_n z1, uL_n z2, uL_n z3]
            refine J909 q (up - 1) U (by omega) b1 (by omega) (by omega) (by omega) ⟨fun j c1 c2 => ?_, fun j c1 c2 c3 => ?_, fun j c1 c2 => ?_⟩ (hp.trans ?_)
            · by_cases z : j = q
              · subst z; rw [v1]; omega
              · rw [v4 j z (by omega) (by omega)]; exact b2 j c1 (by omega)
            · by_cases z : j = k1
              · subst z; exact v3 (by omega)
              · rw [v4 j (by omega) (by omega) z]; exact i2 j (by omega) (by omega) (by omega)
            · by_cases z : j = up - 1
              · subst z; rw [v2]; omega
              · rw [v4 j (by omega) z (by omega)]; exact i3 j (by omega) c2
            · by_cases z : k1 = up - 1
              · exact ps_swap (i := q) (j := k1) b0 (by omega) (by omega) (by omega) (by rw [v1, hak]) (by rw [z, v2]) (fun x z1 z2 => v4 x z1 (by omega) z2)
              · exact ps_cyc (i := q) (j := k1) (k := up - 1) b0 (by omega) (by omega) (by omega) (by omega) (by omega) (by rw [v1, hak]) (by rw [v3 z]; exact (i2 (up - 1) (by omega) (by omega) (by omega)).symm) v2 (fun x z1 z2 z3 => v4 x z1 z3 z2)
        induction s with
        | zero =>
          intro lw2 b1 b2 b3
          refine nd_aload_n hC dJ25_sort_2_854 rfl rfl ?_
          first | with_reducible refine nd_iincN hC dJ25_sort_2_855 rfl (Nat.le_of_ble_eq_true rfl) ?_ | refine nd_iinc hC dJ25_sort_2_855 rfl rfl (Nat.le_of_ble_eq_true rfl) ?_
          refine nd_iload hC dJ25_sort_2_858 rfl ?_
          refine nd_laloadN hC (List.getElem?_set_self hlt) (by omega) (by omega) dJ25_sort_2_860 ?_
          refine nd_lload hC dJ25_sort_2_861 rfl ?_
          refine nd_lcmp_ge hC (tgt := 870) dJ25_sort_2_863 dJ25_sort_2_864 (by decide) (fun hq4 => ?_) (fun hq4 => ?_)
          · rw [Int64.le_iff_toInt_le] at hq4
            exact done (lw2 + 1) (by omega) (by omega) (by omega) (fun j c1 c2 => b3 j c1 (by omega)) hq4
          · exfalso
            rw [show lw2 + 1 = k1 by omega, uL_s] at hq4
            exact hq4 (Int64.le_iff_toInt_le.mpr (Int.le_refl _))
        | succ s ih2 =>
          intro lw2 b1 b2 b3
          refine nd_aload_n hC dJ25_sort_2_854 rfl rfl ?_
          first | with_reducible refine nd_iincN hC dJ25_sort_2_855 rfl (Nat.le_of_ble_eq_true rfl) ?_ | refine nd_iinc hC dJ25_sort_2_855 rfl rfl (Nat.le_of_ble_eq_true rfl) ?_
          refine nd_iload hC dJ25_sort_2_858 rfl ?_
          refine nd_laloadN hC (List.getElem?_set_self hlt) (by omega) (by omega) dJ25_sort_2_860 ?_
          refine nd_lload hC dJ25_sort_2_861 rfl ?_
          refine nd_lcmp_ge hC (tgt := 870) dJ25_sort_2_863 dJ25_sort_2_864 (by decide) (fun hq4 => ?_) (fun hq4 => ?_)
          · rw [Int64.le_iff_toInt_le] at hq4
            exact done (lw2 + 1) (by omega) (by omega) (by omega) (fun j c1 c2 => b3 j c1 (by omega)) hq4
          · rw [Int64.le_iff_toInt_le, uL_n (by omega)] at hq4
            refine nd_goto hC (tgt := 854) dJ25_sort_2_867 (by decide) ?_
            refine ih2 (lw2 + 1) (by omega) (by omega) (fun j c1 c2 => ?_)
            by_cases z : j = lw2 + 1
            · subst z; omega
            · exact b3 j c1 (by omega)
      exact LI (k1 - lw - 1) lw (by omega) (Nat.le_refl _) i1
theorem so_one (hC : nd_Cx g mJ25_sort_2 X) (hlt : A < h.length) (hn : n ≤ 100000) {b lo hi e1 e2 e3 e4 e5 : Nat} {f : Nat → Int64} {l7 l13 l17 l18 l19 l20 l21 l22 l23 l24 : Option Value} (h1 : lo < e3) (h6 : e3 < hi) (h7 : hi ≤ n) (kk : ∀ f2 lw up l19 l20, lo ≤ lw → lw < up → up ≤ hi → so_p lo hi f f2 → (∀ j, lo ≤ j → j < lw → (f2 j).toInt ≤ (f2 lw).toInt) → (∀ j, lw ≤ j → j < up → f2 j = f2 lw) → (∀ j, up ≤ j → j < hi → (f2 lw).toInt ≤ (f2 j).toInt) → nd_W g mJ25_sort_2 d mc ms K X 951 [some .null, some (.ref A), some (.int (nI b)), some (.int (nI lo)), some (.int (nI hi)), some (.int (nI (hi - 1))), some (.int (nI (hi - lo))), l7, some (.int (nI e1)), some (.int (nI e5)), some (.int (nI e3)), some (.int (nI e2)), some (.int (nI e4)), l13, none, some (.int (nI lw)), some (.int (nI up)), some (.long (f e3)), none, l19, l20, none, l22, l23, l24] [] (h.set A (.inl (1, n, .inr (.inl (f2))))) cs ss) : nd_W g mJ25_sort_2 d mc ms K X 795 [some .null, some (.ref A), some (.int (nI b)), some (.int (nI lo)), some (.int (nI hi)), some (.int (nI (hi - 1))), some (.int (nI (hi - lo))), l7, some (.int (nI e1)), some (.int (nI e5)), some (.int (nI e3)), some (.int (nI e2)), some (.int (nI e4)), l13, none, some (.int (nI lo)), some (.int (nI (hi - 1))), l17, l18, l19, l20, l21, l22, l23, l24] [] (h.set A (.inl (1, n, .inr (.inl (f))))) cs ss := by
  generalize hp1 : f e3 = p
  rw [hp1] at kk
  refine nd_aload_n hC dJ25_sort_2_795 rfl rfl ?_
  refine nd_iload hC dJ25_sort_2_796 rfl ?_
  refine nd_laloadN hC (List.getElem?_set_self hlt) (by omega) (by omega) dJ25_sort_2_798 ?_
  rw [hp1]
  refine nd_lstore hC dJ25_sort_2_799 (Nat.le_of_ble_eq_true rfl) ?_
  refine nd_aload_n hC dJ25_sort_2_801 rfl rfl ?_
  refine nd_iload hC dJ25_sort_2_802 rfl ?_
  refine nd_aload_n hC dJ25_sort_2_804 rfl rfl ?_
  refine nd_iload hC dJ25_sort_2_805 rfl ?_
  refine nd_laloadN hC (List.getElem?_set_self hlt) (by omega) (by omega) dJ25_sort_2_807 ?_
  refine so_ast hC hlt hn (by omega) dJ25_sort_2_808 ?_
  first | with_reducible refine nd_iincN hC dJ25_sort_2_809 rfl (Nat.le_of_ble_eq_true rfl) ?_ | refine nd_iinc hC dJ25_sort_2_809 rfl rfl (Nat.le_of_ble_eq_true rfl) ?_
  refine nd_iload hC dJ25_sort_2_812 rfl ?_
  refine nd_istore hC dJ25_sort_2_814 (Nat.le_of_ble_eq_true rfl) ?_
  rw [Nat.sub_add_cancel (by omega)]
  have hp : so_p lo hi f (vp_updL (vp_updL f e3 (f lo)) lo p) := so_p.swap (i := lo) (j := e3) (by omega) (by omega) (by omega) (by omega) (by rw [uL_s, hp1]) (by rw [uL_n (by omega), uL_s]) (fun q z1 z2 => by rw [uL_n z1, uL_n z2])
  refine nd_drop 21 ?_
  refine so_one816 hC hlt hn (f := f) (by omega) h7 (fun lw up k u l20 b1 b2 b3 b5 b6 => ?_) hi lo hi hi _ _ (by omega) (Nat.le_refl _) (by omega) (by omega) (by omega) (Nat.le_refl _) (Nat.le_refl _) ⟨fun j c1 c2 => by omega, fun j c1 c2 c3 => by omega, fun j c1 c2 => by omega⟩ hp
  obtain ⟨i1, i2, i3⟩ := b5
  refine nd_aload_n hC dJ25_sort_2_912 rfl rfl ?_
  refine nd_iload_n hC dJ25_sort_2_913 rfl ?_
  refine nd_aload_n hC dJ25_sort_2_914 rfl rfl ?_
  refine nd_iload hC dJ25_sort_2_915 rfl ?_
  refine nd_laloadN hC (List.getElem?_set_self hlt) (by omega) (by omega) dJ25_sort_2_917 ?_
  refine so_ast hC hlt hn (by omega) dJ25_sort_2_918 ?_
  refine nd_aload_n hC dJ25_sort_2_919 rfl rfl ?_
  refine nd_iload hC dJ25_sort_2_920 rfl ?_
  refine nd_lload hC dJ25_sort_2_922 rfl ?_
  refine so_ast hC hlt hn (by omega) dJ25_sort_2_924 ?_
  generalize hG : vp_updL (vp_updL u lo (u lw)) lw p = G
  have g1 : G lw = p := by rw [← hG, uL_s]
  have g2 : lo ≠ lw → G lo = u lw := fun z => by rw [← hG, uL_n z, uL_s]
  have g3 : ∀ x, x ≠ lo → x ≠ lw → G x = u x := fun x z1 z2 => by rw [← hG, uL_n z2, uL_n z1]
  have F := kk G lw up
  rw [g1] at F
  have m1 : so_p lo hi f G := b6.trans (so_p.swap (i := lo) (j := lw) (by omega) (by omega) (by omega) (by omega) (by
    by_cases z : lo = lw
    · rw [← z] at g1 ⊢; rw [g1, uL_s]
    · rw [g2 z, uL_n (Ne.symm z)]) (by rw [g1, uL_s]) (fun q z1 z2 => by rw [g3 q z1 z2, uL_n z1]))
  have m2 : ∀ j, lo ≤ j → j < lw → (G j).toInt ≤ p.toInt := by
    intro j c1 c2
    by_cases z : j = lo
    · subst z; rw [g2 (by omega)]; have := i1 lw (by omega) (Nat.le_refl _); omega
    · rw [g3 j z (by omega)]; have := i1 j (by omega) (by omega); omega
  have m3 : ∀ j, lw ≤ j → j < up → G j = p := by
    intro j c1 c2
    by_cases z : j = lw
    · subst z; exact g1
    · rw [g3 j (by omega) z]; exact i2 j (by omega) (by omega) c2
  have m4 : ∀ j, up ≤ j → j < hi → p.toInt ≤ (G j).toInt := by
    intro j c1 c2
    rw [g3 j (by omega) (by omega)]; have := i3 j c1 c2; omega
  refine nd_iload hC dJ25_sort_2_925 rfl ?_
  refine nd_sipush hC (v := nI 4096) (by rfl) dJ25_sort_2_927 ?_
  first | with_reducible refine nd_icmp_leN hC (tgt := 951) (by omega) (by omega) dJ25_sort_2_930 (by decide) (fun hq5 => ?_) (fun hq5 => ?_) | refine nd_icmp_le hC (tgt := 951) dJ25_sort_2_930 (by decide) (fun hq5 => ?_) (fun hq5 => ?_)
  · exact F _ _ b1 b2 b3 m1 m2 m3 m4
  · refine nd_aload_n hC dJ25_sort_2_933 rfl rfl ?_
    refine nd_isnullN hC (tgt := 951) dJ25_sort_2_934 (by decide) ?_
    exact F _ _ b1 b2 b3 m1 m2 m3 m4
end SO9909

