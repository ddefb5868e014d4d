set_option maxRecDepth 100000
/-! ===== the whole sort ===== -/
theorem so_join2 {lo lw up hi : Nat} {f f3 f4 f5 f6 : Nat → Int64} (h1 : lo ≤ lw) (h2 : lw < up) (h3 : up < hi) (p0 : so_p lo hi f f3) (q1 : ∀ j, lo ≤ j → j < lw → (f3 j).toInt ≤ (f3 lw).toInt) (q2 : ∀ j, lw < j → j < up → (f3 lw).toInt ≤ (f3 j).toInt ∧ (f3 j).toInt ≤ (f3 up).toInt) (q3 : (f3 lw).toInt ≤ (f3 up).toInt) (q4 : ∀ j, up < j → j < hi → (f3 up).toInt ≤ (f3 j).toInt) (p4 : so_p (lw + 1) up f3 f4) (s4 : so_s (lw + 1) up f4) (p5 : so_p (up + 1) hi f4 f5) (s5 : so_s (up + 1) hi f5) (p6 : so_p lo lw f5 f6) (s6 : so_s lo lw f6) : so_p lo hi f f6 ∧ so_s lo hi f6 := by
  refine ⟨p0.trans ((p4.wide (by omega) (by omega)).trans ((p5.wide (by omega) (Nat.le_refl _)).trans (p6.wide (Nat.le_refl _) (by omega)))), ?_⟩
  have e6 : ∀ j, lw ≤ j → f6 j = f5 j := fun j a => p6.1 j (by omega)
  have e5 : ∀ j, j ≤ up → f5 j = f4 j := fun j a => p5.1 j (by omega)
  have e4 : ∀ j, j ≤ lw ∨ up ≤ j → f4 j = f3 j := fun j a => p4.1 j (by omega)
  have vw : f6 lw = f3 lw := by rw [e6 lw (Nat.le_refl _), e5 lw (by omega), e4 lw (by omega)]
  have vu : f6 up = f3 up := by rw [e6 up (by omega), e5 up (Nat.le_refl _), e4 up (by omega)]
  have r1 : ∀ j, lo ≤ j → j < lw → (f6 j).toInt ≤ (f3 lw).toInt := p6.le (fun j a b => by rw [e5 j (by omega), e4 j (by omega)]; exact q1 j a b)
  have r2 : ∀ j, lw < j → j < up → (f3 lw).toInt ≤ (f6 j).toInt ∧ (f6 j).toInt ≤ (f3 up).toInt := by
    intro j a b
    rw [e6 j (by omega), e5 j (by omega)]
    exact ⟨p4.ge (fun i c e => (q2 i (by omega) e).1) j (by omega) b, p4.le (fun i c e => (q2 i (by omega) e).2) j (by omega) b⟩
  have r4 : ∀ j, up < j → j < hi → (f3 up).toInt ≤ (f6 j).toInt := by
    intro j a b
    rw [e6 j (by omega)]
    exact p5.ge (fun i c e => by rw [e4 i (by omega)]; exact q4 i (by omega) e) j (by omega) b
  have sR : so_s up hi f6 := so_s.join (mid := up + 1) (v := (f3 up).toInt) (so_s.one (Nat.le_refl _)) (s5.congr (fun i a b => e6 i (by omega))) (fun i a b => by rw [show i = up by omega, vu]; exact Int.le_refl _) (fun i a b => r4 i (by omega) b)
  have sM : so_s (lw + 1) hi f6 := so_s.join (mid := up) (v := (f3 up).toInt) (s4.congr (fun i a b => by rw [e6 i (by omega), e5 i (by omega)])) sR (fun i a b => (r2 i (by omega) b).2) (fun i a b => by
    by_cases z : i = up
    · rw [z, vu]; exact Int.le_refl _
    · exact r4 i (by omega) b)
  have ge : ∀ i, lw + 1 ≤ i → i < hi → (f3 lw).toInt ≤ (f6 i).toInt := by
    intro i a b
    by_cases z : i < up
    · exact (r2 i (by omega) z).1
    · by_cases z2 : i = up
      · rw [z2, vu]; exact q3
      · have := r4 i (by omega) b
        omega
  have sW : so_s lw hi f6 := so_s.join (mid := lw + 1) (v := (f3 lw).toInt) (so_s.one (Nat.le_refl _)) sM (fun i a b => by rw [show i = lw by omega, vw]; exact Int.le_refl _) ge
  exact so_s.join (mid := lw) (v := (f3 lw).toInt) s6 sW r1 (fun i a b => by
    by_cases z : i = lw
    · rw [z, vw]; exact Int.le_refl _
    · exact ge i (by omega) b)
theorem so_join1 {lo lw up hi : Nat} {f f3 f5 f6 : Nat → Int64} (h1 : lo ≤ lw) (h2 : lw < up) (h3 : up ≤ hi) (p0 : so_p lo hi f f3) (q1 : ∀ j, lo ≤ j → j < lw → (f3 j).toInt ≤ (f3 lw).toInt) (q2 : ∀ j, lw ≤ j → j < up → f3 j = f3 lw) (q4 : ∀ j, up ≤ j → j < hi → (f3 lw).toInt ≤ (f3 j).toInt) (p5 : so_p up hi f3 f5) (s5 : so_s up hi f5) (p6 : so_p lo lw f5 f6) (s6 : so_s lo lw f6) : so_p lo hi f f6 ∧ so_s lo hi f6 := by
  refine ⟨p0.trans ((p5.wide (by omega) (Nat.le_refl _)).trans (p6.wide (Nat.le_refl _) (by omega))), ?_⟩
  have e6 : ∀ j, lw ≤ j → f6 j = f5 j := fun j a => p6.1 j (by omega)
  have e5 : ∀ j, j < up → f5 j = f3 j := fun j a => p5.1 j (by omega)
  have r1 : ∀ j, lo ≤ j → j < lw → (f6 j).toInt ≤ (f3 lw).toInt := p6.le (fun j a b => by rw [e5 j (by omega)]; exact q1 j a b)
  have r2 : ∀ j, lw ≤ j → j < up → f6 j = f3 lw := fun j a b => by rw [e6 j a, e5 j b, q2 j a b]
  have r4 : ∀ j, up ≤ j → j < hi → (f3 lw).toInt ≤ (f6 j).toInt := by
    intro j a b
    rw [e6 j (by omega)]
    exact p5.ge q4 j a b
  have sW : so_s lw hi f6 := so_s.join (mid := up) (v := (f3 lw).toInt) (fun i j a b c => by rw [r2 i a (by omega), r2 j (by omega) c]; exact Int.le_refl _) (s5.congr (fun i a b => e6 i (by omega))) (fun i a b => by rw [r2 i a b]; exact Int.le_refl _) r4
  exact so_s.join (mid := lw) (v := (f3 lw).toInt) s6 sW r1 (fun i a b => by
    by_cases z : i < up
    · rw [r2 i a z]; exact Int.le_refl _
    · exact r4 i (by omega) b)
theorem so_prod {R q a b c : Nat} (h : a + b + c ≤ q) : R * a + R * b + R * c ≤ R * q := by
  rw [← Nat.mul_add, ← Nat.mul_add]
  exact Nat.mul_le_mul_left _ h
section SO9910
variable {g : nd_G} {A n : Nat}
def so_IH (g : nd_G) (A n R : Nat) : Prop := ∀ d mc ms (K : nd_K) X (h0 h : nd_H) lo hi b (f : Nat → Int64) cs ss l5 l6 l7 l8 l9 l10 l11 l12 l13 l14 l15 l16 l17 l18 l19 l20 l21 l22 l23 l24, nd_Cx g mJ25_sort_2 X → X.2.2.1.heap.size = nd_z g + h0.length → A < h0.length → so_e h0 h cs ss → lo ≤ hi → hi ≤ n → b ≤ 390 → 379 ≤ b + 6 * R → R + 305 ≤ d → (b % 2 = 1 → 1 ≤ lo ∧ ∀ j, lo ≤ j → j < hi → (f (lo - 1)).toInt ≤ (f j).toInt) → (cs + 3 * ((R + 1) * ((hi - lo) / 4096)) + (if b = 0 then 3 else 0) ≤ mc) → (ss + 127 * ((R + 1) * ((hi - lo) / 4096)) + (hi - lo) + (if b = 0 then 381 else 0) ≤ ms) → (∀ hx f2, so_e h0 hx mc ms → so_p lo hi f f2 → so_s lo hi f2 → K (.inl none) (hx.set A (.inl (1, n, .inr (.inl f2))))) → nd_W g mJ25_sort_2 d mc ms K X 0 [some .null, some (.ref A), some (.int (nI b)), some (.int (nI lo)), some (.int (nI hi)), l5, l6, l7, l8, l9, l10, l11, l12, l13, l14, l15, l16, l17, l18, l19, l20, l21, l22, l23, l24] [] (h.set A (.inl (1, n, .inr (.inl f)))) cs ss
theorem so_sub (hg : nd_OK g) {R0 d b : Nat} (IH : so_IH g A n R0) (hb : b ≤ 384) (hbR : 379 ≤ b + 6 * R0) (hd : R0 + 305 ≤ d) {lo2 hi2 : Nat} {hx2 : nd_H} {f3 : Nat → Int64} {K2 : nd_K} (c1 : A < hx2.length) (c2 : 1 ≤ lo2) (c3 : lo2 ≤ hi2) (c4 : hi2 ≤ n) (c5 : ∀ j, lo2 ≤ j → j < hi2 → (f3 (lo2 - 1)).toInt ≤ (f3 j).toInt) {Q : Nat} (hQ : (R0 + 1) * ((hi2 - lo2) / 4096) = Q) (c6 : ∀ hx3 f4, so_e hx2 hx3 (3 * Q) (127 * Q + (hi2 - lo2)) → so_p lo2 hi2 f3 f4 → so_s lo2 hi2 f4 → K2 (.inl none) (hx3.set A (.inl (1, n, .inr (.inl f4))))) : nd_M g mJ25_sort_2 d (3 * Q) (127 * Q + (hi2 - lo2)) [.null, .ref A, .int (nI (2 * (b / 2) + 1)), .int (nI lo2), .int (nI hi2)] (hx2.set A (.inl (1, n, .inr (.inl f3)))) K2 := by
  refine nd_enterL hg (by decide) rfl (Nat.le_of_ble_eq_true rfl) (fun X2 hC2 hX2 => ?_)
  rw [List.length_set] at hX2
  refine nd_lv (lv2 := [some .null, some (.ref A), some (.int (nI (2 * (b / 2) + 1))), some (.int (nI lo2)), some (.int (nI hi2)), none, none, none, none, none, none, none, none, none, none, none, none, none, none, none, none, none, none, none, none]) rfl ?_
  exact IH d _ _ K2 X2 hx2 hx2 lo2 hi2 (2 * (b / 2) + 1) f3 0 0 none none none none none none none none none none none none none none none none none none none none hC2 hX2 c1 so_e.rfl c3 c4 (by omega) (by omega) hd (fun _ => ⟨c2, c5⟩) (by rw [if_neg (by omega), hQ]; omega) (by rw [if_neg (by omega), hQ]; omega) c6
theorem so_q951 (hg : nd_OK g) (hn0 : n ≤ 28000) {R0 d mc ms : Nat} {K : nd_K} {X : nd_X} {h0 hx : nd_H} {lo hi b cs ss q : Nat} {f f2 : Nat → Int64} (IH : so_IH g A n R0) (hC : nd_Cx g mJ25_sort_2 X) (hX : X.2.2.1.heap.size = nd_z g + h0.length) (hA : A < h0.length) (he : so_e h0 hx cs ss) (h2 : hi ≤ n) (hb : b ≤ 384) (hbR : 379 ≤ b + 6 * R0) (hd : R0 + 306 ≤ d) (hse : b % 2 = 1 → 1 ≤ lo ∧ ∀ j, lo ≤ j → j < hi → (f (lo - 1)).toInt ≤ (f j).toInt) (hp : so_p lo hi f f2) (hq : q = (hi - lo) / 4096) (hmc : cs + 3 * ((R0 + 1) * q) ≤ mc) (hms : ss + 127 * ((R0 + 1) * q) + (hi - lo) ≤ ms) (h6 : 6 ≤ b) (hk : ∀ hx f2, so_e h0 hx mc ms → so_p lo hi f f2 → so_s lo hi f2 → K (.inl none) (hx.set A (.inl (1, n, .inr (.inl f2))))) {l5 l6 l7 l8 l9 l10 l11 l12 l13 l14 l17 l18 l19 l20 l21 l22 l23 l24 : Option Value} {lw up : Nat} (b1 : lo ≤ lw) (b2 : lw < up) (b3 : up ≤ hi) (q1 : ∀ j, lo ≤ j → j < lw → (f2 j).toInt ≤ (f2 lw).toInt) (q2 : ∀ j, lw ≤ j → j < up → f2 j = f2 lw) (q4 : ∀ j, up ≤ j → j < hi → (f2 lw).toInt ≤ (f2 j).toInt) : nd_W g mJ25_sort_2 d mc ms K X 951 [some .null, some (.ref A), some (.int (nI b)), some (.int (nI lo)), some (.int (nI hi)), l5, l6, l7, l8, l9, l10, l11, l12, l13, l14, some (.int (nI lw)), some (.int (nI up)), l17, l18, l19, l20, l21, l22, l23, l24] [] (hx.set A (.inl (1, n, .inr (.inl f2)))) cs ss := by
  have hlt : A < hx.length := Nat.lt_of_lt_of_le hA he.le
  have hpr := so_prod (R := R0 + 1) (q := q) (a := (lw - lo) / 4096) (b := 0) (c := (hi - up) / 4096) (by omega)
  rw [Nat.mul_zero] at hpr
  generalize hQ0 : (R0 + 1) * q = Q0 at hpr hmc hms
  generalize hQ1 : (R0 + 1) * ((lw - lo) / 4096) = Q1 at hpr
  generalize hQ3 : (R0 + 1) * ((hi - up) / 4096) = Q3 at hpr
  refine nd_aload_n hC dJ25_sort_2_951 rfl rfl ?_
  refine nd_aload_n hC dJ25_sort_2_952 rfl rfl ?_
  refine nd_iload_n hC dJ25_sort_2_953 rfl ?_
  refine nd_iconst hC (v := nI 1) (by rfl) dJ25_sort_2_954 ?_
  refine nd_ior hC dJ25_sort_2_955 ?_
  rw [i_or1 (by omega)]
  refine nd_iload hC dJ25_sort_2_956 rfl ?_
  refine nd_iload hC dJ25_sort_2_958 rfl ?_
  have hse3 : ∀ j, up ≤ j → j < hi → (f2 (up - 1)).toInt ≤ (f2 j).toInt := by
    intro j c1 c2
    rw [q2 (up - 1) (by omega) (by omega)]
    exact q4 j c1 c2
  refine nd_callS (mm2 := mJ25_sort_2) (As := [_, _, _, _, _]) (mc2 := 3 * Q3) (ms2 := 127 * Q3 + (hi - up)) (d2 := d - 1) hC rfl lkJ25_99 lmJ25_sort_2 (Nat.le_of_ble_eq_true rfl) (by omega) rfl (by exact Nat.le_of_ble_eq_true rfl) (by omega) (by omega) dJ25_sort_2_960 rfl ((so_sub hg IH hb hbR (by omega) hlt (by omega) b3 h2 hse3 hQ3 (fun hx3 f5 e3' p5 s5 => ?_)))
  refine nd_iload hC dJ25_sort_2_963 rfl ?_
  refine nd_istore hC dJ25_sort_2_965 (Nat.le_of_ble_eq_true rfl) ?_
  refine nd_goto hC (tgt := 0) dJ25_sort_2_967 (by decide) ?_
  have hl3 := he.trans e3'
  have K6 : ∀ hx6 f6, so_e h0 hx6 mc ms → so_p lo lw f5 f6 → so_s lo lw f6 → K (.inl none) (hx6.set A (.inl (1, n, .inr (.inl f6)))) := by
    intro hx6 f6 e6 p6 s6
    have JJ := so_join1 b1 b2 b3 hp q1 q2 q4 p5 s5 p6 s6
    exact hk hx6 f6 e6 JJ.1 JJ.2
  have hse6 : b % 2 = 1 → 1 ≤ lo ∧ ∀ j, lo ≤ j → j < lw → (f5 (lo - 1)).toInt ≤ (f5 j).toInt := by
    intro z
    obtain ⟨s1, s2⟩ := hse z
    refine ⟨s1, fun j c1 c2 => ?_⟩
    have pA := hp.trans (p5.wide (by omega) (Nat.le_refl _))
    rw [pA.1 (lo - 1) (by omega)]
    exact pA.ge s2 j c1 (by omega)
  refine nd_lv (lv2 := [some .null, some (.ref A), some (.int (nI b)), some (.int (nI lo)), some (.int (nI lw)), l5, l6, l7, l8, l9, l10, l11, l12, l13, l14, some (.int (nI lw)), some (.int (nI up)), l17, l18, l19, l20, l21, l22, l23, l24]) rfl ?_
  exact IH d mc ms K X h0 hx3 lo lw b f5 _ _ (l5) (l6) (l7) (l8) (l9) (l10) (l11) (l12) (l13) (l14) (some (.int (nI lw))) (some (.int (nI up))) (l17) (l18) (l19) (l20) (l21) (l22) (l23) (l24) hC hX hA hl3 b1 (by omega) (by omega) hbR (by omega) hse6 (by rw [if_neg (by omega), hQ1]; omega) (by rw [if_neg (by omega), hQ1]; omega) K6
theorem so_q764 (hg : nd_OK g) (hn0 : n ≤ 28000) {R0 d mc ms : Nat} {K : nd_K} {X : nd_X} {h0 hx : nd_H} {lo hi b cs ss q : Nat} {f f2 : Nat → Int64} (IH : so_IH g A n R0) (hC : nd_Cx g mJ25_sort_2 X) (hX : X.2.2.1.heap.size = nd_z g + h0.length) (hA : A < h0.length) (he : so_e h0 hx cs ss) (h2 : hi ≤ n) (hb : b ≤ 384) (hbR : 379 ≤ b + 6 * R0) (hd : R0 + 306 ≤ d) (hse : b % 2 = 1 → 1 ≤ lo ∧ ∀ j, lo ≤ j → j < hi → (f (lo - 1)).toInt ≤ (f j).toInt) (hp : so_p lo hi f f2) (hq : q = (hi - lo) / 4096) (hmc : cs + 3 * ((R0 + 1) * q) ≤ mc) (hms : ss + 127 * ((R0 + 1) * q) + (hi - lo) ≤ ms) (h6 : 6 ≤ b) (hk : ∀ hx f2, so_e h0 hx mc ms → so_p lo hi f f2 → so_s lo hi f2 → K (.inl none) (hx.set A (.inl (1, n, .inr (.inl f2))))) {l5 l6 l7 l8 l9 l10 l11 l12 l13 l14 l17 l18 l19 l20 l21 l22 l23 l24 : Option Value} {lw up : Nat} (b1 : lo ≤ lw) (b2 : lw < up) (b3 : up < hi) (q1 : ∀ j, lo ≤ j → j < lw → (f2 j).toInt ≤ (f2 lw).toInt) (q2 : ∀ j, lw < j → j < up → (f2 lw).toInt ≤ (f2 j).toInt ∧ (f2 j).toInt ≤ (f2 up).toInt) (q3 : (f2 lw).toInt ≤ (f2 up).toInt) (q4 : ∀ j, up < j → j < hi → (f2 up).toInt ≤ (f2 j).toInt) : nd_W g mJ25_sort_2 d mc ms K X 764 [some .null, some (.ref A), some (.int (nI b)), some (.int (nI lo)), some (.int (nI hi)), l5, l6, l7, l8, l9, l10, l11, l12, l13, l14, some (.int (nI lw)), some (.int (nI up)), l17, l18, l19, l20, l21, l22, l23, l24] [] (hx.set A (.inl (1, n, .inr (.inl f2)))) cs ss := by
  have hlt : A < hx.length := Nat.lt_of_lt_of_le hA he.le
  have hpr := so_prod (R := R0 + 1) (q := q) (a := (lw - lo) / 4096) (b := (up - (lw + 1)) / 4096) (c := (hi - (up + 1)) / 4096) (by omega)
  generalize hQ0 : (R0 + 1) * q = Q0 at hpr hmc hms
  generalize hQ1 : (R0 + 1) * ((lw - lo) / 4096) = Q1 at hpr
  generalize hQ2 : (R0 + 1) * ((up - (lw + 1)) / 4096) = Q2 at hpr
  generalize hQ3 : (R0 + 1) * ((hi - (up + 1)) / 4096) = Q3 at hpr
  refine nd_aload_n hC dJ25_sort_2_764 rfl rfl ?_
  refine nd_aload_n hC dJ25_sort_2_765 rfl rfl ?_
  refine nd_iload_n hC dJ25_sort_2_766 rfl ?_
  refine nd_iconst hC (v := nI 1) (by rfl) dJ25_sort_2_767 ?_
  refine nd_ior hC dJ25_sort_2_768 ?_
  rw [i_or1 (by omega)]
  refine nd_iload hC dJ25_sort_2_769 rfl ?_
  refine nd_iconst hC (v := nI 1) (by rfl) dJ25_sort_2_771 ?_
  first | with_reducible refine nd_iaddN hC dJ25_sort_2_772 ?_ | refine nd_iadd hC dJ25_sort_2_772 ?_
  refine nd_iload hC dJ25_sort_2_773 rfl ?_
  refine nd_callS (mm2 := mJ25_sort_2) (As := [_, _, _, _, _]) (mc2 := 3 * Q2) (ms2 := 127 * Q2 + (up - (lw + 1))) (d2 := d - 1) hC rfl lkJ25_99 lmJ25_sort_2 (Nat.le_of_ble_eq_true rfl) (by omega) rfl (by exact Nat.le_of_ble_eq_true rfl) (by omega) (by omega) dJ25_sort_2_775 rfl ((so_sub hg IH hb hbR (by omega) hlt (by omega) (by omega) (by omega) (fun j c1 c2 => by rw [Nat.add_sub_cancel]; exact (q2 j (by omega) c2).1) hQ2 (fun hx3 f5 e3' p5 s5 => ?_)))
  have hlt3 : A < hx3.length := Nat.lt_of_lt_of_le hlt e3'.le
  refine nd_aload_n hC dJ25_sort_2_778 rfl rfl ?_
  refine nd_aload_n hC dJ25_sort_2_779 rfl rfl ?_
  refine nd_iload_n hC dJ25_sort_2_780 rfl ?_
  refine nd_iconst hC (v := nI 1) (by rfl) dJ25_sort_2_781 ?_
  refine nd_ior hC dJ25_sort_2_782 ?_
  rw [i_or1 (by omega)]
  refine nd_iload hC dJ25_sort_2_783 rfl ?_
  refine nd_iconst hC (v := nI 1) (by rfl) dJ25_sort_2_785 ?_
  first | with_reducible refine nd_iaddN hC dJ25_sort_2_786 ?_ | refine nd_iadd hC dJ25_sort_2_786 ?_
  refine nd_iload hC dJ25_sort_2_787 rfl ?_
  refine nd_callS (mm2 := mJ25_sort_2) (As := [_, _, _, _, _]) (mc2 := 3 * Q3) (ms2 := 127 * Q3 + (hi - (up + 1))) (d2 := d - 1) hC rfl lkJ25_99 lmJ25_sort_2 (Nat.le_of_ble_eq_true rfl) (by omega) rfl (by exact Nat.le_of_ble_eq_true rfl) (by omega) (by omega) dJ25_sort_2_789 rfl ((so_sub hg IH hb hbR (by omega) hlt3 (by omega) (by omega) h2 (fun j c1 c2 => by rw [Nat.add_sub_cancel, p5.1 up (by omega), p5.1 j (by omega)]; exact q4 j (by omega) c2) hQ3 (fun hx4 f6 e4' p6 s6 => ?_)))
  refine nd_goto hC (tgt := 963) dJ25_sort_2_792 (by decide) ?_
  refine nd_iload hC dJ25_sort_2_963 rfl ?_
  refine nd_istore hC dJ25_sort_2_965 (Nat.le_of_ble_eq_true rfl) ?_
  refine nd_goto hC (tgt := 0) dJ25_sort_2_967 (by decide) ?_
  have K7 : ∀ hx7 f7, so_e h0 hx7 mc ms → so_p lo lw f6 f7 → so_s lo lw f7 → K (.inl none) (hx7.set A (.inl (1, n, .inr (.inl f7)))) := by
    intro hx7 f7 e7 p7 s7
    have JJ := so_join2 b1 b2 b3 hp q1 q2 q3 q4 p5 s5 p6 s6 p7 s7
    exact hk hx7 f7 e7 JJ.1 JJ.2
  have hse6 : b % 2 = 1 → 1 ≤ lo ∧ ∀ j, lo ≤ j → j < lw → (f6 (lo - 1)).toInt ≤ (f6 j).toInt := by
    intro z
    obtain ⟨s1, s2⟩ := hse z
    refine ⟨s1, fun j c1 c2 => ?_⟩
    have pA := (hp.trans (p5.wide (by omega) (by omega))).trans (p6.wide (by omega) (Nat.le_refl _))
    rw [pA.1 (lo - 1) (by omega)]
    exact pA.ge s2 j c1 (by omega)
  have hl3 := (he.trans e3').trans e4'
  refine nd_lv (lv2 := [some .null, some (.ref A), some (.int (nI b)), some (.int (nI lo)), some (.int (nI lw)), l5, l6, l7, l8, l9, l10, l11, l12, l13, l14, some (.int (nI lw)), some (.int (nI up)), l17, l18, l19, l20, l21, l22, l23, l24]) rfl ?_
  exact IH d mc ms K X h0 hx4 lo lw b f6 _ _ (l5) (l6) (l7) (l8) (l9) (l10) (l11) (l12) (l13) (l14) (some (.int (nI lw))) (some (.int (nI up))) (l17) (l18) (l19) (l20) (l21) (l22) (l23) (l24) hC hX hA hl3 b1 (by omega) (by omega) hbR (by omega) hse6 (by rw [if_neg (by omega), hQ1]; omega) (by rw [if_neg (by omega), hQ1]; omega) K7
/-- five places, then one of the partitions -/
theorem so_q109 (hg : nd_OK g) (hn0 : n ≤ 28000) {R0 d mc ms : Nat} {K : nd_K} {X : nd_X} {h0 hx : nd_H} {lo hi b cs ss q : Nat} {f f2 : Nat → Int64} (IH : so_IH g A n R0) (hC : nd_Cx g mJ25_sort_2 X) (hX : X.2.2.1.heap.size = nd_z g + h0.length) (hA : A < h0.length) (he : so_e h0 hx cs ss) (h2 : hi ≤ n) (hb : b ≤ 384) (hbR : 379 ≤ b + 6 * R0) (hd : R0 + 306 ≤ d) (hse : b % 2 = 1 → 1 ≤ lo ∧ ∀ j, lo ≤ j → j < hi → (f (lo - 1)).toInt ≤ (f j).toInt) (hp : so_p lo hi f f2) (hq : q = (hi - lo) / 4096) (hmc : cs + 3 * ((R0 + 1) * q) ≤ mc) (hms : ss + 127 * ((R0 + 1) * q) + (hi - lo) ≤ ms) (h6 : 6 ≤ b) (hk : ∀ hx f2, so_e h0 hx mc ms → so_p lo hi f f2 → so_s lo hi f2 → K (.inl none) (hx.set A (.inl (1, n, .inr (.inl f2))))) {l7 l8 l9 l10 l11 l12 l13 l14 l15 l16 l17 l18 l19 l20 l21 l22 l23 l24 : Option Value} (h44 : 44 ≤ hi - lo) : nd_W g mJ25_sort_2 d mc ms K X 109 [some .null, some (.ref A), some (.int (nI b)), some (.int (nI lo)), some (.int (nI hi)), some (.int (nI (hi - 1))), some (.int (nI (hi - lo))), l7, l8, l9, l10, l11, l12, l13, l14, l15, l16, l17, l18, l19, l20, l21, l22, l23, l24] [] (hx.set A (.inl (1, n, .inr (.inl f2)))) cs ss := by
  have hlt : A < hx.length := Nat.lt_of_lt_of_le hA he.le
  have hn : n ≤ 100000 := by omega
  refine nd_iload hC dJ25_sort_2_109 rfl ?_
  refine nd_iconst hC (v := nI 3) (by rfl) dJ25_sort_2_111 ?_
  refine nd_ishr hC dJ25_sort_2_112 ?_
  rw [i_shr (by omega) (by decide), show 2 ^ 3 = 8 from rfl]
  refine nd_iconst hC (v := nI 3) (by rfl) dJ25_sort_2_113 ?_
  first | with_reducible refine nd_imulN hC dJ25_sort_2_114 ?_ | refine nd_imul hC dJ25_sort_2_114 ?_
  refine nd_iconst hC (v := nI 3) (by rfl) dJ25_sort_2_115 ?_
  first | with_reducible refine nd_iaddN hC dJ25_sort_2_116 ?_ | refine nd_iadd hC dJ25_sort_2_116 ?_
  generalize hS : (hi - lo) / 8 * 3 + 3 = S
  refine nd_istore hC dJ25_sort_2_117 (Nat.le_of_ble_eq_true rfl) ?_
  refine nd_iload_n hC dJ25_sort_2_119 rfl ?_
  refine nd_iload hC dJ25_sort_2_120 rfl ?_
  first | with_reducible refine nd_iaddN hC dJ25_sort_2_122 ?_ | refine nd_iadd hC dJ25_sort_2_122 ?_
  refine nd_istore hC dJ25_sort_2_123 (Nat.le_of_ble_eq_true rfl) ?_
  refine nd_iload hC dJ25_sort_2_125 rfl ?_
  refine nd_iload hC dJ25_sort_2_127 rfl ?_
  first | with_reducible refine nd_isubN hC (by omega) dJ25_sort_2_129 ?_ | refine nd_isub hC dJ25_sort_2_129 ?_
  refine nd_istore hC dJ25_sort_2_130 (Nat.le_of_ble_eq_true rfl) ?_
  refine nd_lv (lv2 := [some .null, some (.ref A), some (.int (nI b)), some (.int (nI lo)), some (.int (nI hi)), some (.int (nI (hi - 1))), some (.int (nI (hi - lo))), some (.int (nI S)), some (.int (nI (lo + S))), some (.int (nI (hi - 1 - S))), l10, l11, l12, l13, l14, l15, l16, l17, l18, l19, l20, l21, l22, l23, l24]) rfl ?_
  refine nd_iload hC dJ25_sort_2_132 rfl ?_
  refine nd_iload hC dJ25_sort_2_134 rfl ?_
  first | with_reducible refine nd_iaddN hC dJ25_sort_2_136 ?_ | refine nd_iadd hC dJ25_sort_2_136 ?_
  refine nd_iconst hC (v := nI 1) (by rfl) dJ25_sort_2_137 ?_
  refine nd_iushr hC dJ25_sort_2_138 ?_
  rw [i_half (by omega)]
  generalize hE1 : lo + S = e1
  generalize hE5 : hi - 1 - S = e5
  generalize hE3 : (e1 + e5) / 2 = e3
  refine nd_istore hC dJ25_sort_2_139 (Nat.le_of_ble_eq_true rfl) ?_
  refine nd_iload hC dJ25_sort_2_141 rfl ?_
  refine nd_iload hC dJ25_sort_2_143 rfl ?_
  first | with_reducible refine nd_iaddN hC dJ25_sort_2_145 ?_ | refine nd_iadd hC dJ25_sort_2_145 ?_
  refine nd_iconst hC (v := nI 1) (by rfl) dJ25_sort_2_146 ?_
  refine nd_iushr hC dJ25_sort_2_147 ?_
  rw [i_half (by omega)]
  generalize hE2 : (e1 + e3) / 2 = e2
  refine nd_istore hC dJ25_sort_2_148 (Nat.le_of_ble_eq_true rfl) ?_
  refine nd_iload hC dJ25_sort_2_150 rfl ?_
  refine nd_iload hC dJ25_sort_2_152 rfl ?_
  first | with_reducible refine nd_iaddN hC dJ25_sort_2_154 ?_ | refine nd_iadd hC dJ25_sort_2_154 ?_
  refine nd_iconst hC (v := nI 1) (by rfl) dJ25_sort_2_155 ?_
  refine nd_iushr hC dJ25_sort_2_156 ?_
  rw [i_half (by omega)]
  generalize hE4 : (e3 + e5) / 2 = e4
  refine nd_istore hC dJ25_sort_2_157 (Nat.le_of_ble_eq_true rfl) ?_
  refine nd_drop 14 ?_
  refine nd_lv (lv2 := [some .null, some (.ref A), some (.int (nI b)), some (.int (nI lo)), some (.int (nI hi)), some (.int (nI (hi - 1))), some (.int (nI (hi - lo))), some (.int (nI S)), some (.int (nI e1)), some (.int (nI e5)), some (.int (nI e3)), some (.int (nI e2)), some (.int (nI e4)), l13, none, l15, l16, l17, l18, l19, l20, l21, l22, l23, l24]) rfl ?_
  refine so_net hC hlt hn (lo := lo) (hi := hi) (e1 := e1) (e2 := e2) (e3 := e3) (e4 := e4) (e5 := e5) (by omega) (by omega) (by omega) (by omega) (by omega) (by omega) h2 (fun f3 l13 l15 l16 hp3 => ?_)
  refine nd_iload_n hC dJ25_sort_2_446 rfl ?_
  refine nd_istore hC dJ25_sort_2_447 (Nat.le_of_ble_eq_true rfl) ?_
  refine nd_iload hC dJ25_sort_2_449 rfl ?_
  refine nd_istore hC dJ25_sort_2_451 (Nat.le_of_ble_eq_true rfl) ?_
  refine nd_lv (lv2 := [some .null, some (.ref A), some (.int (nI b)), some (.int (nI lo)), some (.int (nI hi)), some (.int (nI (hi - 1))), some (.int (nI (hi - lo))), some (.int (nI S)), some (.int (nI e1)), some (.int (nI e5)), some (.int (nI e3)), some (.int (nI e2)), some (.int (nI e4)), l13, none, some (.int (nI lo)), some (.int (nI (hi - 1))), l17, l18, l19, l20, l21, l22, l23, l24]) rfl ?_
  have J795 : nd_W g mJ25_sort_2 d mc ms K X 795 [some .null, some (.ref A), some (.int (nI b)), some (.int (nI lo)), some (.int (nI hi)), some (.int (nI (hi - 1))), some (.int (nI (hi - lo))), some (.int (nI S)), some (.int (nI e1)), some (.int (nI e5)), some (.int (nI e3)), some (.int (nI e2)), some (.int (nI e4)), l13, none, some (.int (nI lo)), some (.int (nI (hi - 1))), l17, l18, l19, l20, l21, l22, l23, l24] [] (hx.set A (.inl (1, n, .inr (.inl f3)))) cs ss :=
    so_one hC hlt hn (by omega) (by omega) h2 (fun f4 lw up l19 l20 b1 b2 b3 p4 q1 q2 q4 => so_q951 hg hn0 IH hC hX hA he h2 hb hbR hd hse ((hp.trans hp3).trans p4) hq hmc hms h6 hk b1 b2 b3 q1 q2 q4)
  refine nd_aload_n hC dJ25_sort_2_453 rfl rfl ?_
  refine nd_iload hC dJ25_sort_2_454 rfl ?_
  refine nd_laloadN hC (List.getElem?_set_self hlt) (by omega) (by omega) dJ25_sort_2_456 ?_
  refine nd_aload_n hC dJ25_sort_2_457 rfl rfl ?_
  refine nd_iload hC dJ25_sort_2_458 rfl ?_
  refine nd_laloadN hC (List.getElem?_set_self hlt) (by omega) (by omega) dJ25_sort_2_460 ?_
  refine nd_lcmp_ge hC (tgt := 795) dJ25_sort_2_461 dJ25_sort_2_462 (by decide) (fun hq5 => ?_) (fun hq5 => ?_)
  · exact J795
  refine nd_aload_n hC dJ25_sort_2_465 rfl rfl ?_
  refine nd_iload hC dJ25_sort_2_466 rfl ?_
  refine nd_laloadN hC (List.getElem?_set_self hlt) (by omega) (by omega) dJ25_sort_2_468 ?_
  refine nd_aload_n hC dJ25_sort_2_469 rfl rfl ?_
  refine nd_iload hC dJ25_sort_2_470 rfl ?_
  refine nd_laloadN hC (List.getElem?_set_self hlt) (by omega) (by omega) dJ25_sort_2_472 ?_
  refine nd_lcmp_ge hC (tgt := 795) dJ25_sort_2_473 dJ25_sort_2_474 (by decide) (fun hq6 => ?_) (fun hq6 => ?_)
  · exact J795
  refine nd_aload_n hC dJ25_sort_2_477 rfl rfl ?_
  refine nd_iload hC dJ25_sort_2_478 rfl ?_
  refine nd_laloadN hC (List.getElem?_set_self hlt) (by omega) (by omega) dJ25_sort_2_480 ?_
  refine nd_aload_n hC dJ25_sort_2_481 rfl rfl ?_
  refine nd_iload hC dJ25_sort_2_482 rfl ?_
  refine nd_laloadN hC (List.getElem?_set_self hlt) (by omega) (by omega) dJ25_sort_2_484 ?_
  refine nd_lcmp_ge hC (tgt := 795) dJ25_sort_2_485 dJ25_sort_2_486 (by decide) (fun hq7 => ?_) (fun hq7 => ?_)
  · exact J795
  refine nd_aload_n hC dJ25_sort_2_489 rfl rfl ?_
  refine nd_iload hC dJ25_sort_2_490 rfl ?_
  refine nd_laloadN hC (List.getElem?_set_self hlt) (by omega) (by omega) dJ25_sort_2_492 ?_
  refine nd_aload_n hC dJ25_sort_2_493 rfl rfl ?_
  refine nd_iload hC dJ25_sort_2_494 rfl ?_
  refine nd_laloadN hC (List.getElem?_set_self hlt) (by omega) (by omega) dJ25_sort_2_496 ?_
  refine nd_lcmp_ge hC (tgt := 795) dJ25_sort_2_497 dJ25_sort_2_498 (by decide) (fun hq8 => ?_) (fun hq8 => ?_)
  · exact J795
  rw [Int64.le_iff_toInt_le] at hq5 hq6 hq7 hq8
  exact so_two hC hlt hn (by omega) (by omega) (by omega) (by omega) (by omega) (by omega) h2 (by omega) (by omega) (by omega) (fun f4 lw up l21 l22 l23 b1 b2 b3 p4 q1 q2 q3 q4 => so_q764 hg hn0 IH hC hX hA he h2 hb hbR hd hse ((hp.trans hp3).trans p4) hq hmc hms h6 hk b1 b2 b3 q1 q2 q3 q4)
theorem so_qs (hg : nd_OK g) (hn0 : n ≤ 28000) : ∀ R, so_IH g A n R := by
  have hn : n ≤ 100000 := by omega
  intro R
  induction R using Nat.strongRecOn with
  | ind R ih =>
  intro d mc ms K X h0 h lo hi b f cs ss l5 l6 l7 l8 l9 l10 l11 l12 l13 l14 l15 l16 l17 l18 l19 l20 l21 l22 l23 l24 hC hX hA he h1 h2 hb hbR hd hse hmc hms hk
  have hlt : A < h.length := Nat.lt_of_lt_of_le hA he.le
  have hRq : (R + 1) * ((hi - lo) / 4096) = R * ((hi - lo) / 4096) + (hi - lo) / 4096 := Nat.succ_mul _ _
  rw [hRq] at hmc hms
  generalize hq0 : (hi - lo) / 4096 = q at hmc hms
  generalize hRq0 : R * q = Rq at hmc hms
  have hb0 : (b = 0 → cs + 3 * (Rq + q) + 3 ≤ mc ∧ ss + 127 * (Rq + q) + (hi - lo) + 381 ≤ ms) ∧ cs + 3 * (Rq + q) ≤ mc ∧ ss + 127 * (Rq + q) + (hi - lo) ≤ ms := by
    refine ⟨fun z => ?_, ?_, ?_⟩
    · rw [if_pos z] at hmc hms; exact ⟨hmc, hms⟩
    · omega
    · omega
  obtain ⟨hb0, hmc1, hms1⟩ := hb0
  refine nd_iload hC dJ25_sort_2_0 rfl ?_
  refine nd_iconst hC (v := nI 1) (by rfl) dJ25_sort_2_2 ?_
  refine nd_isub hC dJ25_sort_2_3 ?_
  generalize hE : nI hi - nI 1 = E
  refine nd_istore hC dJ25_sort_2_4 (Nat.le_of_ble_eq_true rfl) ?_
  refine nd_iload hC dJ25_sort_2_6 rfl ?_
  refine nd_iload_n hC dJ25_sort_2_8 rfl ?_
  first | with_reducible refine nd_isubN hC (by omega) dJ25_sort_2_9 ?_ | refine nd_isub hC dJ25_sort_2_9 ?_
  refine nd_istore hC dJ25_sort_2_10 (Nat.le_of_ble_eq_true rfl) ?_
  refine nd_lv (lv2 := [some .null, some (.ref A), some (.int (nI b)), some (.int (nI lo)), some (.int (nI hi)), some (.int E), some (.int (nI (hi - lo))), l7, l8, l9, l10, l11, l12, l13, l14, l15, l16, l17, l18, l19, l20, l21, l22, l23, l24]) rfl ?_
  refine nd_iload hC dJ25_sort_2_12 rfl ?_
  refine nd_bipush hC (v := nI 65) (by rfl) dJ25_sort_2_14 ?_
  refine nd_iload_n hC dJ25_sort_2_16 rfl ?_
  first | with_reducible refine nd_iaddN hC dJ25_sort_2_17 ?_ | refine nd_iadd hC dJ25_sort_2_17 ?_
  have J91 : ∀ hx f2 cs2 ss2, 44 ≤ hi - lo → so_e h0 hx cs2 ss2 → so_p lo hi f f2 → cs2 + 3 * Rq ≤ mc → ss2 + 127 * Rq + (hi - lo) ≤ ms → nd_W g mJ25_sort_2 d mc ms K X 91 [some .null, some (.ref A), some (.int (nI b)), some (.int (nI lo)), some (.int (nI hi)), some (.int E), some (.int (nI (hi - lo))), l7, l8, l9, l10, l11, l12, l13, l14, l15, l16, l17, l18, l19, l20, l21, l22, l23, l24] [] (hx.set A (.inl (1, n, .inr (.inl f2)))) cs2 ss2 := by
    intro hx f2 cs2 ss2 h44 hex hp hcs2 hss2
    have hlt : A < hx.length := Nat.lt_of_lt_of_le hA hex.le
    refine nd_iinc hC dJ25_sort_2_91 rfl (nI_add b 6) (Nat.le_of_ble_eq_true rfl) ?_
    refine nd_iload_n hC dJ25_sort_2_94 rfl ?_
    refine nd_sipush hC (v := nI 384) (by rfl) dJ25_sort_2_95 ?_
    first | with_reducible refine nd_icmp_leN hC (tgt := 109) (by omega) (by omega) dJ25_sort_2_98 (by decide) (fun hq4 => ?_) (fun hq4 => ?_) | refine nd_icmp_le hC (tgt := 109) dJ25_sort_2_98 (by decide) (fun hq4 => ?_) (fun hq4 => ?_)
    · have hR1 : R - 1 + 1 = R := by omega
      have hE2 : E = nI (hi - 1) := by
        rw [← hE, show nI hi = nI (hi - 1 + 1) by rw [Nat.sub_add_cancel (by omega)]]
        exact i_pred (by omega)
      subst hE2
      refine nd_lv (lv2 := [some .null, some (.ref A), some (.int (nI (b + 6))), some (.int (nI lo)), some (.int (nI hi)), some (.int (nI (hi - 1))), some (.int (nI (hi - lo))), l7, l8, l9, l10, l11, l12, l13, l14, l15, l16, l17, l18, l19, l20, l21, l22, l23, l24]) rfl ?_
      exact so_q109 hg hn0 (R0 := R - 1) (ih (R - 1) (by omega)) hC hX hA hex h2 hq4 (by omega) (by omega) (fun z => hse (by omega)) hp hq0.symm (by rw [hR1, hRq0]; exact hcs2) (by rw [hR1, hRq0]; exact hss2) (by omega) hk h44
    · refine nd_aload_n hC dJ25_sort_2_101 rfl rfl ?_
      refine nd_iload_n hC dJ25_sort_2_102 rfl ?_
      refine nd_iload hC dJ25_sort_2_103 rfl ?_
      refine nd_callS (mm2 := mJ25_heapSort) (As := [_, _, _]) (mc2 := 0) (ms2 := 0) (d2 := d - 1) hC rfl lkJ25_111 lmJ25_heapSort (Nat.le_of_ble_eq_true rfl) (by omega) rfl (by exact Nat.le_of_ble_eq_true rfl) (by omega) (by omega) dJ25_sort_2_105 rfl ((so_heap hg (by omega) hlt hn (by omega) h2 (fun f3 p3 s3 => ?_)))
      refine nd_return hC rfl (by omega) (by omega) dJ25_sort_2_108 ((hk hx f3 (hex.mono (by omega) (by omega)) (hp.trans p3) s3))
  have J79 : 44 ≤ hi - lo → (b = 0 ∨ 4096 < hi - lo) → nd_W g mJ25_sort_2 d mc ms K X 79 [some .null, some (.ref A), some (.int (nI b)), some (.int (nI lo)), some (.int (nI hi)), some (.int E), some (.int (nI (hi - lo))), l7, l8, l9, l10, l11, l12, l13, l14, l15, l16, l17, l18, l19, l20, l21, l22, l23, l24] [] (h.set A (.inl (1, n, .inr (.inl f)))) cs ss := by
    intro h44 hor
    generalize hT : (if 16128 ≤ hi - lo then 381 else 127) = T
    have hT2 : (16128 ≤ hi - lo ∧ T = 381) ∨ (¬ 16128 ≤ hi - lo ∧ T = 127) := by
      by_cases z : 16128 ≤ hi - lo
      · rw [if_pos z] at hT; exact Or.inl ⟨z, hT.symm⟩
      · rw [if_neg z] at hT; exact Or.inr ⟨z, hT.symm⟩
    have hlh : lo + (hi - lo) = hi := by omega
    have hbud : cs + 3 ≤ mc ∧ ss + (T + (hi - lo)) ≤ ms := by
      rcases hor with z | z
      · have := hb0 z
        omega
      · omega
    obtain ⟨hbc, hbs⟩ := hbud
    refine nd_aload_n hC dJ25_sort_2_79 rfl rfl ?_
    refine nd_aload_n hC dJ25_sort_2_80 rfl rfl ?_
    refine nd_iload_n hC dJ25_sort_2_81 rfl ?_
    refine nd_iload hC dJ25_sort_2_82 rfl ?_
    refine nd_callS (mm2 := mJ25_tryMergeRuns) (As := [_, _, _, _]) (mc2 := 3) (ms2 := T + (hi - lo)) (d2 := d - 1) hC rfl lkJ25_108 lmJ25_tryMergeRuns (Nat.le_of_ble_eq_true rfl) (by omega) rfl (by exact Nat.le_of_ble_eq_true rfl) (by omega) (by omega) dJ25_sort_2_84 rfl ((so_try hg (lo := lo) (sz := hi - lo) hlt hn0 (by omega) (by omega) (by omega) (by omega) (by omega) (fun hx f2 c s e c1 c2 p => ?_) (fun hx f2 e p s => ?_)))
    · rw [hlh] at p
      have het := he.trans e
      refine nd_tightS hX hA het ?_
      first | with_reducible refine nd_if_eqB hC (tgt := 91) dJ25_sort_2_87 (by decide) (fun hq9 => ?_) (fun hq9 => ?_) | with_reducible refine nd_if_eqN hC (tgt := 91) (by omega) dJ25_sort_2_87 (by decide) (fun hq9 => ?_) (fun hq9 => ?_) | refine nd_if_eq hC (tgt := 91) dJ25_sort_2_87 (by decide) (fun hq9 => ?_) (fun hq9 => ?_)
      · refine J91 hx f2 _ _ h44 het p ?_ ?_
        · rcases hor with z | z
          · have := hb0 z
            omega
          · omega
        · rcases hor with z | z
          · have := hb0 z
            omega
          · omega
      · exact absurd rfl hq9
    · rw [hlh] at p s
      have het := (he.trans e).mono hbc hbs
      first | with_reducible refine nd_if_eqB hC (tgt := 91) dJ25_sort_2_87 (by decide) (fun hq9 => ?_) (fun hq9 => ?_) | with_reducible refine nd_if_eqN hC (tgt := 91) (by omega) dJ25_sort_2_87 (by decide) (fun hq9 => ?_) (fun hq9 => ?_) | refine nd_if_eq hC (tgt := 91) dJ25_sort_2_87 (by decide) (fun hq9 => ?_) (fun hq9 => ?_)
      · exact absurd hq9 (by decide)
      · refine nd_return hC rfl (by omega) (by omega) dJ25_sort_2_90 ((hk hx f2 het p s))
  have J46 : nd_W g mJ25_sort_2 d mc ms K X 46 [some .null, some (.ref A), some (.int (nI b)), some (.int (nI lo)), some (.int (nI hi)), some (.int E), some (.int (nI (hi - lo))), l7, l8, l9, l10, l11, l12, l13, l14, l15, l16, l17, l18, l19, l20, l21, l22, l23, l24] [] (h.set A (.inl (1, n, .inr (.inl f)))) cs ss := by
    refine nd_iload hC dJ25_sort_2_46 rfl ?_
    refine nd_bipush hC (v := nI 44) (by rfl) dJ25_sort_2_48 ?_
    first | with_reducible refine nd_icmp_geN hC (tgt := 61) (by omega) (by omega) dJ25_sort_2_50 (by decide) (fun hq2 => ?_) (fun hq2 => ?_) | refine nd_icmp_ge hC (tgt := 61) dJ25_sort_2_50 (by decide) (fun hq2 => ?_) (fun hq2 => ?_)
    · refine nd_iload_n hC dJ25_sort_2_61 rfl ?_
      first | with_reducible refine nd_if_eqB hC (tgt := 79) dJ25_sort_2_62 (by decide) (fun hq3 => ?_) (fun hq3 => ?_) | with_reducible refine nd_if_eqN hC (tgt := 79) (by omega) dJ25_sort_2_62 (by decide) (fun hq3 => ?_) (fun hq3 => ?_) | refine nd_if_eq hC (tgt := 79) dJ25_sort_2_62 (by decide) (fun hq3 => ?_) (fun hq3 => ?_)
      · exact J79 hq2 (Or.inl hq3)
      refine nd_iload hC dJ25_sort_2_65 rfl ?_
      refine nd_sipush hC (v := nI 4096) (by rfl) dJ25_sort_2_67 ?_
      first | with_reducible refine nd_icmp_leN hC (tgt := 91) (by omega) (by omega) dJ25_sort_2_70 (by decide) (fun hq4 => ?_) (fun hq4 => ?_) | refine nd_icmp_le hC (tgt := 91) dJ25_sort_2_70 (by decide) (fun hq4 => ?_) (fun hq4 => ?_)
      · exact J91 h f cs ss hq2 he so_p.rfl (by omega) (by omega)
      refine nd_iload_n hC dJ25_sort_2_73 rfl ?_
      refine nd_iconst hC (v := nI 1) (by rfl) dJ25_sort_2_74 ?_
      refine nd_iand hC dJ25_sort_2_75 ?_
      rw [i_and1]
      exact nd_if_le hC (tgt := 91) dJ25_sort_2_76 (by decide) (fun _ => J91 h f cs ss hq2 he so_p.rfl (by omega) (by omega)) (fun _ => J79 hq2 (Or.inr hq4))
    · refine nd_aload_n hC dJ25_sort_2_53 rfl rfl ?_
      refine nd_iload_n hC dJ25_sort_2_54 rfl ?_
      refine nd_iload hC dJ25_sort_2_55 rfl ?_
      refine nd_callS (mm2 := mJ25_insertionSort) (As := [_, _, _]) (mc2 := 0) (ms2 := 0) (d2 := d - 1) hC rfl lkJ25_105 lmJ25_insertionSort (Nat.le_of_ble_eq_true rfl) (by omega) rfl (by exact Nat.le_of_ble_eq_true rfl) (by omega) (by omega) dJ25_sort_2_57 rfl ((so_insertion hg hlt hn h1 h2 (fun f3 p3 s3 => ?_)))
      refine nd_return hC rfl (by omega) (by omega) dJ25_sort_2_60 ((hk h f3 (he.mono (by omega) (by omega)) p3 s3))
  first | with_reducible refine nd_icmp_geN hC (tgt := 46) (by omega) (by omega) dJ25_sort_2_18 (by decide) (fun hq1 => ?_) (fun hq1 => ?_) | refine nd_icmp_ge hC (tgt := 46) dJ25_sort_2_18 (by decide) (fun hq1 => ?_) (fun hq1 => ?_)
  · exact J46
  · refine nd_iload_n hC dJ25_sort_2_21 rfl ?_
    refine nd_iconst hC (v := nI 1) (by rfl) dJ25_sort_2_22 ?_
    refine nd_iand hC dJ25_sort_2_23 ?_
    rw [i_and1]
    rcases Nat.mod_two_eq_zero_or_one b with z | z
    · rw [z]
      exact nd_if_le hC (tgt := 46) dJ25_sort_2_24 (by decide) (fun _ => J46) (fun q => absurd (by decide) q)
    · rw [z]
      refine nd_if_le hC (tgt := 46) dJ25_sort_2_24 (by decide) (fun q => absurd q (by decide)) (fun _ => ?_)
      obtain ⟨s1, s2⟩ := hse z
      refine nd_aload_n hC dJ25_sort_2_27 rfl rfl ?_
      refine nd_iload_n hC dJ25_sort_2_28 rfl ?_
      refine nd_iload hC dJ25_sort_2_29 rfl ?_
      refine nd_iconst hC (v := nI 3) (by rfl) dJ25_sort_2_31 ?_
      refine nd_iload hC dJ25_sort_2_32 rfl ?_
      refine nd_iconst hC (v := nI 5) (by rfl) dJ25_sort_2_34 ?_
      refine nd_ishr hC dJ25_sort_2_35 ?_
      rw [i_shr (by omega) (by decide), show 2 ^ 5 = 32 from rfl]
      refine nd_iconst hC (v := nI 3) (by rfl) dJ25_sort_2_36 ?_
      refine nd_ishl hC dJ25_sort_2_37 ?_
      rw [i_shl3]
      first | with_reducible refine nd_imulN hC dJ25_sort_2_38 ?_ | refine nd_imul hC dJ25_sort_2_38 ?_
      first | with_reducible refine nd_isubN hC (by omega) dJ25_sort_2_39 ?_ | refine nd_isub hC dJ25_sort_2_39 ?_
      refine nd_iload hC dJ25_sort_2_40 rfl ?_
      by_cases z2 : hi - lo < 32
      · rw [show hi - 3 * (8 * ((hi - lo) / 32)) = hi by omega]
        refine nd_callS (mm2 := mJ25_mixedInsertionSort) (As := [_, _, _, _]) (mc2 := 0) (ms2 := 0) (d2 := d - 1) hC rfl lkJ25_102 lmJ25_mixedInsertionSort (Nat.le_of_ble_eq_true rfl) (by omega) rfl (by exact Nat.le_of_ble_eq_true rfl) (by omega) (by omega) dJ25_sort_2_42 rfl ((so_mixed0 hg hlt (by omega) s1 h1 h2 s2 (fun f3 p3 s3 => ?_)))
        refine nd_return hC rfl (by omega) (by omega) dJ25_sort_2_45 ((hk h f3 (he.mono (by omega) (by omega)) p3 s3))
      · refine nd_callS (mm2 := mJ25_mixedInsertionSort) (As := [_, _, _, _]) (mc2 := 0) (ms2 := 0) (d2 := d - 1) hC rfl lkJ25_102 lmJ25_mixedInsertionSort (Nat.le_of_ble_eq_true rfl) (by omega) rfl (by exact Nat.le_of_ble_eq_true rfl) (by omega) (by omega) dJ25_sort_2_42 rfl ((so_mixed1 hg hlt (by omega) s1 (by omega) (by omega) (by omega) h2 s2 (fun f3 p3 s3 => ?_)))
        refine nd_return hC rfl (by omega) (by omega) dJ25_sort_2_45 ((hk h f3 (he.mono (by omega) (by omega)) p3 s3))
/-- Arrays.sort of a row of longs -/
theorem so_arrays {K : nd_K} {h : nd_H} {d : Nat} (hg : nd_OK g) (hn0 : n ≤ 28000) (hA : A < h.length) {hi : Nat} {f : Nat → Int64} (h2 : hi ≤ n) (hd : 380 ≤ d) (hk : ∀ hx f2, so_e h hx 1200 80000 → so_p 0 hi f f2 → so_s 0 hi f2 → K (.inl none) (hx.set A (.inl (1, n, .inr (.inl f2))))) : nd_M g mJ16_sort d 1200 80000 [.ref A, .int (nI 0), .int (nI hi)] (h.set A (.inl (1, n, .inr (.inl f)))) K := by
  refine so_sortA hg (by omega) (Nat.zero_le _) h2 (by omega) (List.getElem?_set_self hA) (fun K2 hK2 => ?_)
  refine nd_enterL hg (by decide) rfl (Nat.le_of_ble_eq_true rfl) (fun X2 hC2 hX2 => ?_)
  rw [List.length_set] at hX2
  exact so_qs hg hn0 64 (d - 2) _ _ K2 X2 h h 0 hi 0 f 0 0 none none none none none none none none none none none none none none none none none none none none hC2 hX2 hA so_e.rfl (Nat.zero_le _) h2 (by omega) (by omega) (by omega) (fun z => absurd z (by decide)) (by rw [if_pos rfl]; omega) (by rw [if_pos rfl]; omega) (fun hx f2 e p s => hK2 _ (hk hx f2 e p s))
end SO9910

