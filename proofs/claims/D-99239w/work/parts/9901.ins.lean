set_option maxRecDepth 100000
/-! ===== insertion into a sorted row, by shifting (mixedInsertionSort) ===== -/
def so_sh (s q p : Nat) (f : Nat → Int64) : Nat → Int64 := fun j => if q + s < j ∧ j < p + s then f (j - s) else f j
theorem so_sh_0 {s q : Nat} {f : Nat → Int64} : so_sh s q (q + 1) f = f := by
  funext j
  unfold so_sh
  rw [if_neg (by omega)]
theorem so_sh_step {s q p : Nat} {f : Nat → Int64} (hs : 1 ≤ s) (hq : q < p) : so_sh s q p (vp_updL f (p + s) (f p)) = so_sh s q (p + 1) f := by
  funext j
  unfold so_sh
  by_cases e : j = p + s
  · subst e
    rw [if_neg (by omega), if_pos (by omega), uL_s, Nat.add_sub_cancel]
  · by_cases e2 : q + s < j ∧ j < p + s
    · rw [if_pos e2, if_pos (by omega), uL_n (by omega)]
    · rw [if_neg e2, if_neg (by omega), uL_n e]
def so_in (q p : Nat) (v : Int64) (f : Nat → Int64) : Nat → Int64 := fun j => if j = q + 1 then v else if q + 1 < j ∧ j ≤ p then f (j - 1) else f j
theorem so_in_at {q p : Nat} {v : Int64} {f : Nat → Int64} : so_in q p v f (q + 1) = v := by unfold so_in; rw [if_pos rfl]
theorem so_in_mid {q p j : Nat} {v : Int64} {f : Nat → Int64} (h1 : q + 1 < j) (h2 : j ≤ p) : so_in q p v f j = f (j - 1) := by unfold so_in; rw [if_neg (by omega), if_pos ⟨h1, h2⟩]
theorem so_in_out {q p j : Nat} {v : Int64} {f : Nat → Int64} (h1 : j ≤ q ∨ p < j) (hq : q < p) : so_in q p v f j = f j := by unfold so_in; rw [if_neg (by omega), if_neg (by omega)]
theorem so_in_eq {q p : Nat} {v : Int64} {f : Nat → Int64} : vp_updL (so_sh 1 q p f) (q + 1) v = so_in q p v f := by
  funext j
  by_cases e : j = q + 1
  · subst e; rw [uL_s, so_in_at]
  · rw [uL_n e]
    unfold so_sh so_in
    rw [if_neg e]
    by_cases e2 : q + 1 < j ∧ j < p + 1
    · rw [if_pos e2, if_pos (by omega)]
    · rw [if_neg e2, if_neg (by omega)]
theorem so_in_upd {q p : Nat} {v w : Int64} {f : Nat → Int64} (hq : q < p) : so_in q p v (vp_updL f p w) = so_in q p v f := by
  funext j
  by_cases e : j = q + 1
  · subst e; rw [so_in_at, so_in_at]
  · by_cases e2 : q + 1 < j ∧ j ≤ p
    · rw [so_in_mid e2.1 e2.2, so_in_mid e2.1 e2.2, uL_n (by omega)]
    · rw [so_in_out (by omega) hq, so_in_out (by omega) hq, uL_n (by omega)]
theorem so_in_p {lo hi q p : Nat} {v : Int64} {f : Nat → Int64} (h1 : lo ≤ q + 1) (hq : q < p) (hp : p < hi) (hv : f p = v) : so_p lo hi f (so_in q p v f) := by
  refine ⟨fun i h => so_in_out (by omega) hq, fun i a b => ?_, fun j a b => ?_⟩
  · by_cases e : i = q + 1
    · subst e; exact ⟨p, by omega, hp, by rw [so_in_at, hv]⟩
    · by_cases e2 : q + 1 < i ∧ i ≤ p
      · exact ⟨i - 1, by omega, by omega, so_in_mid e2.1 e2.2⟩
      · exact ⟨i, a, b, so_in_out (by omega) hq⟩
  · by_cases e : j = p
    · subst e; exact ⟨q + 1, h1, by omega, by rw [so_in_at, hv]⟩
    · by_cases e2 : q + 1 ≤ j ∧ j < p
      · exact ⟨j + 1, by omega, by omega, by rw [so_in_mid (by omega) (by omega), Nat.add_sub_cancel]⟩
      · exact ⟨j, a, b, so_in_out (by omega) hq⟩
theorem so_in_s {lo q p : Nat} {v : Int64} {f : Nat → Int64} (h1 : lo ≤ q + 1) (hq : q < p) (hs : so_s lo p f) (hv : lo ≤ q → (f q).toInt ≤ v.toInt) (hg : ∀ j, q < j → j < p → v.toInt ≤ (f j).toInt) : so_s lo (p + 1) (so_in q p v f) := by
  intro i j a b c
  by_cases ei : i = q + 1
  · subst ei
    rw [so_in_at]
    by_cases ej : j = q + 1
    · subst ej; rw [so_in_at]; exact Int.le_refl _
    · rw [so_in_mid (by omega) (by omega)]; exact hg _ (by omega) (by omega)
  · by_cases ei2 : q + 1 < i
    · rw [so_in_mid ei2 (by omega), so_in_mid (by omega) (by omega)]
      exact hs _ _ (by omega) (by omega) (by omega)
    · rw [so_in_out (by omega) hq]
      by_cases ej : j = q + 1
      · subst ej
        rw [so_in_at]
        have h3 := hv (by omega)
        have h4 := hs i q a (by omega) (by omega)
        omega
      · by_cases ej2 : q + 1 < j
        · rw [so_in_mid ej2 (by omega)]; exact hs _ _ a (by omega) (by omega)
        · rw [so_in_out (by omega) hq]; exact hs _ _ a b (by omega)
theorem so_pair_eq {q1 q2 k : Nat} {x y : Int64} {f : Nat → Int64} (h1 : q2 ≤ q1) (h2 : q1 < k) : vp_updL (so_sh 1 q2 (q1 + 1) (vp_updL (so_sh 2 q1 k f) (q1 + 2) x)) (q2 + 1) y = so_in q2 (k + 1) y (so_in q1 k x f) := by
  funext j
  by_cases e : j = q2 + 1
  · subst e; rw [uL_s, so_in_at]
  · rw [uL_n e]
    by_cases e2 : j ≤ q2
    · rw [so_in_out (by omega) (by omega), so_in_out (by omega) h2]
      unfold so_sh
      rw [if_neg (by omega), uL_n (by omega), if_neg (by omega)]
    · by_cases e3 : j ≤ q1 + 1
      · rw [so_in_mid (by omega) (by omega), so_in_out (by omega) h2]
        unfold so_sh
        rw [if_pos (by omega), uL_n (by omega), if_neg (by omega)]
      · by_cases e4 : j = q1 + 2
        · subst e4
          rw [so_in_mid (by omega) (by omega), show q1 + 2 - 1 = q1 + 1 by omega, so_in_at]
          unfold so_sh
          rw [if_neg (by omega), uL_s]
        · by_cases e5 : j ≤ k + 1
          · rw [so_in_mid (by omega) e5, so_in_mid (by omega) (by omega)]
            unfold so_sh
            rw [if_neg (by omega), uL_n e4, if_pos (by omega), show j - 1 - 1 = j - 2 by omega]
          · rw [so_in_out (by omega) (by omega), so_in_out (by omega) h2]
            unfold so_sh
            rw [if_neg (by omega), uL_n e4, if_neg (by omega)]
/-- two at once -/
theorem so_pair {lo hi q1 q2 k : Nat} {x y : Int64} {f : Nat → Int64} (hxy : (x = f k ∧ y = f (k + 1)) ∨ (x = f (k + 1) ∧ y = f k)) (hle : y.toInt ≤ x.toInt) (h0 : lo ≤ q2 + 1) (h1 : q2 ≤ q1) (h2 : q1 < k) (h3 : k + 1 < hi) (hs : so_s lo k f) (hx1 : (f q1).toInt ≤ x.toInt) (hx2 : ∀ j, q1 < j → j < k → x.toInt < (f j).toInt) (hy1 : (f q2).toInt ≤ y.toInt) (hy2 : ∀ j, q2 < j → j < q1 + 1 → y.toInt < (f j).toInt) : so_p lo hi f (so_in q2 (k + 1) y (so_in q1 k x f)) ∧ so_s lo (k + 2) (so_in q2 (k + 1) y (so_in q1 k x f)) := by
  constructor
  · rcases hxy with ⟨e1, e2⟩ | ⟨e1, e2⟩
    · refine (so_in_p (by omega) h2 (by omega) e1.symm).trans (so_in_p h0 (by omega) h3 ?_)
      rw [so_in_out (by omega) h2, e2]
    · have hsw : so_p lo hi f (vp_updL (vp_updL f k x) (k + 1) y) := so_p.swap (i := k) (j := k + 1) (by omega) (by omega) (by omega) (by omega) (by rw [uL_n (by omega), uL_s, e1]) (by rw [uL_s, e2]) (fun q z1 z2 => by rw [uL_n z2, uL_n z1])
      have he : so_in q2 (k + 1) y (so_in q1 k x (vp_updL (vp_updL f k x) (k + 1) y)) = so_in q2 (k + 1) y (so_in q1 k x f) := by
        have e3 : so_in q1 k x (vp_updL (vp_updL f k x) (k + 1) y) = vp_updL (so_in q1 k x f) (k + 1) y := by
          funext j
          by_cases e : j = k + 1
          · subst e; rw [uL_s, so_in_out (by omega) h2, uL_s]
          · rw [uL_n e]
            by_cases e4 : j = q1 + 1
            · subst e4; rw [so_in_at, so_in_at]
            · by_cases e5 : q1 + 1 < j ∧ j ≤ k
              · rw [so_in_mid e5.1 e5.2, so_in_mid e5.1 e5.2, uL_n (by omega), uL_n (by omega)]
              · rw [so_in_out (by omega) h2, so_in_out (by omega) h2, uL_n e, uL_n (by omega)]
        rw [e3, so_in_upd (by omega)]
      rw [← he]
      refine hsw.trans ((so_in_p (by omega) h2 (by omega) (by rw [uL_n (by omega), uL_s])).trans (so_in_p h0 (by omega) h3 ?_))
      rw [so_in_out (by omega) h2, uL_s]
  · refine so_in_s h0 (by omega) (so_in_s (by omega) h2 hs (fun _ => hx1) (fun j a b => Int.le_of_lt (hx2 j a b))) (fun _ => ?_) (fun j a b => ?_)
    · rw [so_in_out (by omega) h2]; exact hy1
    · by_cases e : j = q1 + 1
      · subst e; rw [so_in_at]; exact hle
      · by_cases e2 : j ≤ q1
        · rw [so_in_out (by omega) h2]; exact Int.le_of_lt (hy2 j a (by omega))
        · rw [so_in_mid (by omega) (by omega)]
          have := hx2 (j - 1) (by omega) (by omega)
          omega
theorem so_s.snoc {lo k : Nat} {f : Nat → Int64} (hs : so_s lo (k + 1) f) (h : (f k).toInt ≤ (f (k + 1)).toInt) : so_s lo (k + 2) f := by
  intro i j a b c
  by_cases e : j = k + 1
  · subst e
    by_cases e2 : i = k + 1
    · subst e2; exact Int.le_refl _
    · have := hs i k a (by omega) (by omega)
      omega
  · exact hs i j a b (by omega)
theorem so_s.one {lo k : Nat} {f : Nat → Int64} (h : k ≤ lo + 1) : so_s lo k f := fun i j a b c => by rw [show i = j by omega]; exact Int.le_refl _

