/-! ===== the text: places and steps stay within bounds ===== -/
def tx_gd (T : List Nat) (a : Nat) (r : tx_R) : Prop := match r with
  | .inl x => a + x.1.length ≤ x.2 ∧ x.2 ≤ T.length
  | .inr e => (1 ≤ e.1 ∧ e.1 ≤ 4) ∧ e.2 ≤ T.length
def tx_G (T : List Nat) (f : Nat → tx_R) : Prop := ∀ p, p ≤ T.length → tx_gd T p (f p)
theorem tx_bind_inl {r : tx_R} {f : Nat → tx_R} {z : List Nat × Nat} (h : tx_bind r f = .inl z) : ∃ x y, r = .inl x ∧ f x.2 = .inl y ∧ z = (x.1 ++ y.1, y.2) := by
  cases r with
  | inr e => cases h
  | inl x =>
    have h : (match f x.2 with
      | .inl y => (.inl (x.1 ++ y.1, y.2) : tx_R)
      | .inr e => .inr e) = .inl z := h
    cases hf : f x.2 with
    | inr e => rw [hf] at h; cases h
    | inl y => rw [hf] at h; cases h; exact ⟨x, y, rfl, hf, rfl⟩
theorem tx_gd_bind {T : List Nat} {a : Nat} {r : tx_R} {f : Nat → tx_R} (h : tx_gd T a r) (hf : tx_G T f) : tx_gd T a (tx_bind r f) := by
  cases r with
  | inr e => exact h
  | inl x =>
    have h1 : a + x.1.length ≤ x.2 ∧ x.2 ≤ T.length := h
    have h2 := hf x.2 h1.2
    show tx_gd T a (match f x.2 with
      | .inl y => (.inl (x.1 ++ y.1, y.2) : tx_R)
      | .inr e => .inr e)
    cases hq : f x.2 with
    | inr e => rw [hq] at h2; exact h2
    | inl y =>
      rw [hq] at h2
      have h2 : x.2 + y.1.length ≤ y.2 ∧ y.2 ≤ T.length := h2
      show a + (x.1 ++ y.1).length ≤ y.2 ∧ y.2 ≤ T.length
      rw [List.length_append]
      omega
theorem tx_gd_lay {T : List Nat} {a c : Nat} {r : tx_R} (h : tx_gd T (a + 1) r) : tx_gd T a (tx_bind r (tx_lay c)) := by
  cases r with
  | inr e => exact h
  | inl x =>
    have h1 : a + 1 + x.1.length ≤ x.2 ∧ x.2 ≤ T.length := h
    show a + (x.1 ++ [c]).length ≤ x.2 ∧ x.2 ≤ T.length
    rw [List.length_append]
    simp only [List.length_cons, List.length_nil]
    omega
theorem tx_gd_w {T : List Nat} {a : Nat} {r : tx_R} (h : tx_gd T (a + 1) r) : tx_gd T a r := by
  cases r with
  | inr e => exact h
  | inl x =>
    have h1 : a + 1 + x.1.length ≤ x.2 ∧ x.2 ≤ T.length := h
    show a + x.1.length ≤ x.2 ∧ x.2 ≤ T.length
    omega
theorem tx_gd_on {T : List Nat} {p : Nat} (h : p ≤ T.length) (hk : tx_k T p ≠ 0) : tx_gd T (p + 1) (tx_on T p) := by
  have h1 := tx_h_gt hk
  have h2 := tx_b_ge T p
  have h3 := tx_h_le T h
  show p + 1 + 0 ≤ tx_h T p ∧ tx_h T p ≤ T.length
  omega
theorem tx_gd_e {T : List Nat} {p a : Nat} (h : p ≤ T.length) : tx_gd T a (.inr (tx_e T p 2)) := by
  have := tx_b_le T h
  show (1 ≤ (if tx_k T p = 3 then 1 else 2) ∧ (if tx_k T p = 3 then 1 else 2) ≤ 4) ∧ tx_b T p ≤ T.length
  split <;> omega
theorem tx_gd_r {T : List Nat} {p a k : Nat} (h : p ≤ T.length) (h1 : 1 ≤ k) (h2 : k ≤ 4) : tx_gd T a (.inr (k, tx_b T p)) := ⟨⟨h1, h2⟩, tx_b_le T h⟩
theorem tx_G_must (T : List Nat) (k : Nat) : tx_G T (tx_must T k) := by
  intro p hp
  unfold tx_must
  split
  · have h2 := tx_b_ge T p
    have h1 := tx_h_ge T p
    have h3 := tx_h_le T hp
    show p + 0 ≤ tx_h T p ∧ tx_h T p ≤ T.length
    omega
  · exact tx_gd_e hp
theorem tx_G_mw (T w : List Nat) : tx_G T (tx_mw T w) := by
  intro p hp
  unfold tx_mw
  split
  · have h2 := tx_b_ge T p
    have h1 := tx_h_ge T p
    have h3 := tx_h_le T hp
    show p + 0 ≤ tx_h T p ∧ tx_h T p ≤ T.length
    omega
  · exact tx_gd_e hp
theorem tx_G_num (T : List Nat) (k : Nat) : tx_G T (tx_num T k) := by
  intro p hp
  unfold tx_num
  by_cases c : tx_k T p = 2
  · rw [if_pos c]
    split
    · have h1 := tx_h_gt (T := T) (p := p) (by omega)
      have h2 := tx_b_ge T p
      have h3 := tx_h_le T hp
      show p + 1 ≤ tx_h T p ∧ tx_h T p ≤ T.length
      omega
    · exact tx_gd_r hp (by omega) (by omega)
  · rw [if_neg c]; exact tx_gd_e hp
theorem tx_G_full (T : List Nat) (b : Bool) : tx_G T (tx_full T b) := by
  intro p hp
  unfold tx_full
  split
  · exact tx_gd_r hp (by omega) (by omega)
  · have h2 := tx_b_ge T p
    have h1 := tx_h_ge T p
    have h3 := tx_h_le T hp
    show p + 0 ≤ tx_h T p ∧ tx_h T p ≤ T.length
    omega
theorem tx_G_chain {T : List Nat} {item : Nat → tx_R} {op : Nat → Option Nat} (hi : tx_G T item) (ho : ∀ p c, op p = some c → tx_k T p ≠ 0) : ∀ f, tx_G T (tx_chain T item op f) := by
  intro f
  induction f with
  | zero => intro p hp; show p + 0 ≤ p ∧ p ≤ T.length; omega
  | succ f ih =>
    intro p hp
    show tx_gd T p (match op p with
      | none => .inl ([], p)
      | some c => tx_bind (tx_bind (tx_bind (tx_on T p) item) (tx_lay c)) (tx_chain T item op f))
    cases hop : op p with
    | none => show p + 0 ≤ p ∧ p ≤ T.length; omega
    | some c => exact tx_gd_bind (tx_gd_lay (tx_gd_bind (tx_gd_on hp (ho p c hop)) hi)) ih
theorem tx_G_seq {T : List Nat} {item : Nat → tx_R} {op : Nat → Option Nat} (hi : tx_G T item) (ho : ∀ p c, op p = some c → tx_k T p ≠ 0) : tx_G T (tx_seq T item op) := fun p hp => tx_gd_bind (hi p hp) (tx_G_chain hi ho _)
theorem tx_fw_some {T : List Nat} {p m : Nat} : ∀ f k j, tx_fw T p m f k = some j → j < m ∧ tx_w T p (tx_ws.getD j []) = true := by
  intro f
  induction f with
  | zero => intro k j h; cases h
  | succ f ih =>
    intro k j h
    have h : (if m ≤ k then none else if tx_w T p (tx_ws.getD k []) = true then some k else tx_fw T p m f (k + 1)) = some j := h
    split at h
    · cases h
    · split at h
      · next c q => cases h; exact ⟨by omega, q⟩
      · exact ih _ _ h
def tx_oG (T : List Nat) (r : Option (Nat → tx_R)) : Prop := match r with
  | none => True
  | some r => tx_G T r
theorem tx_G_atom {T : List Nat} {m : Nat} {r : Option (Nat → tx_R)} (hr : tx_oG T r) : tx_G T (tx_atom T m r) := by
  intro p hp
  unfold tx_atom
  cases hw : tx_word T m p with
  | some k =>
    have hk : tx_k T p = 1 := tx_w_k (tx_fw_some _ _ _ hw).2
    exact tx_gd_lay (tx_gd_on hp (by omega))
  | none =>
    dsimp only
    by_cases c : tx_k T p = 40
    · rw [if_pos c]
      cases r with
      | none => exact tx_gd_r hp (by omega) (by omega)
      | some r => exact tx_gd_bind (tx_gd_bind (tx_gd_w (tx_gd_on hp (by omega))) hr) (tx_G_must T 41)
    · rw [if_neg c]
      by_cases c2 : tx_k T p = 2
      · rw [if_pos c2]; exact tx_gd_lay (tx_gd_on hp (by omega))
      · rw [if_neg c2]; exact tx_gd_e hp
theorem tx_times_k {T : List Nat} (p c : Nat) (h : tx_times T p = some c) : tx_k T p ≠ 0 := by
  unfold tx_times at h
  split at h
  · omega
  · cases h
theorem tx_pm_k {T : List Nat} (p c : Nat) (h : tx_pm T p = some c) : tx_k T p ≠ 0 := by
  unfold tx_pm at h
  split at h
  · omega
  · split at h
    · omega
    · cases h
theorem tx_aw_k {T w : List Nat} {a : Nat} (p c : Nat) (h : tx_aw T w a p = some c) : tx_k T p ≠ 0 := by
  unfold tx_aw at h
  split at h
  · next q => have := tx_w_k q; omega
  · cases h
theorem tx_G_sumW {T : List Nat} {m : Nat} {r : Option (Nat → tx_R)} (hr : tx_oG T r) : tx_G T (tx_sumW T m r) := tx_G_seq (item := tx_term T m r) (tx_G_seq (item := tx_atom T m r) (tx_G_atom hr) tx_times_k) tx_pm_k
theorem tx_G_sum (T : List Nat) (m : Nat) : ∀ k, tx_G T (tx_sum T m k) := by
  intro k
  induction k with
  | zero => exact tx_G_sumW (r := none) trivial
  | succ k ih => exact tx_G_sumW (r := some (tx_sum T m k)) ih
theorem tx_G_both {T : List Nat} {u : Nat → tx_R} (hu : tx_G T u) : tx_G T (tx_both T u) := tx_G_seq hu tx_aw_k
theorem tx_G_trW {T : List Nat} {u : Nat → tx_R} (hu : tx_G T u) : tx_G T (tx_trW T u) := tx_G_seq (item := tx_both T u) (tx_G_both hu) tx_aw_k
theorem tx_G_cp {T : List Nat} {sm : Nat → tx_R} (hs : tx_G T sm) : tx_G T (tx_cp T sm) := by
  intro p hp
  unfold tx_cp
  cases hc : tx_cmp (tx_k T p) with
  | none => exact tx_gd_e hp
  | some c =>
    have hk : tx_k T p ≠ 0 := by
      intro e
      rw [e] at hc
      have hc : (none : Option Nat) = some c := hc
      cases hc
    exact tx_gd_lay (tx_gd_bind (tx_gd_on hp hk) hs)
theorem tx_G_unW {T : List Nat} {sm : Nat → tx_R} {r : Option (Nat → tx_R)} (hs : tx_G T sm) (hr : tx_oG T r) : tx_G T (tx_unW T sm r) := by
  intro p hp
  unfold tx_unW
  by_cases c : tx_w T p tx_not = true
  · rw [if_pos c]
    have hk := tx_w_k c
    cases r with
    | none => exact tx_gd_r hp (by omega) (by omega)
    | some r => exact tx_gd_lay (tx_gd_bind (tx_gd_on hp (by omega)) hr)
  · rw [if_neg c]
    by_cases c2 : tx_k T p = 91
    · rw [if_pos c2]
      cases r with
      | none => exact tx_gd_r hp (by omega) (by omega)
      | some r => exact tx_gd_bind (tx_gd_bind (tx_gd_w (tx_gd_on hp (by omega))) (tx_G_trW hr)) (tx_G_must T 93)
    · rw [if_neg c2]; exact tx_gd_bind (hs p hp) (tx_G_cp hs)
theorem tx_G_unit (T : List Nat) (m : Nat) : ∀ k, tx_G T (tx_unit T m k) := by
  intro k
  induction k with
  | zero => exact tx_G_unW (r := none) (tx_G_sum T m 0) trivial
  | succ k ih => exact tx_G_unW (r := some (tx_unit T m k)) (tx_G_sum T m (k + 1)) ih
theorem tx_G_truth (T : List Nat) (m k : Nat) : tx_G T (tx_truth T m k) := tx_G_trW (tx_G_unit T m k)
/-! ===== steps leave one number ===== -/
def lw_pu (m H : Nat) (s : List Nat) : Prop := ∀ n rest, n + H ≤ 64 → lw_wf m (n + 1) rest → lw_wf m n (s ++ rest)
theorem lw_pu.up {m H H2 : Nat} {s : List Nat} (h : lw_pu m H s) (hH : H ≤ H2) : lw_pu m H2 s := fun n rest a b => h n rest (by omega) b
theorem lw_pu.lit {m v : Nat} (hv : v < 1000) : lw_pu m 1 [1000 + v] := by
  intro n rest a b
  show lw_wf m n ((1000 + v) :: rest)
  unfold lw_wf
  rw [if_pos (by omega)]
  exact ⟨by omega, by omega, b⟩
theorem lw_pu.word {m k : Nat} (hk : k < m) (hm : m ≤ 8) : lw_pu m 1 [100 + k] := by
  intro n rest a b
  show lw_wf m n ((100 + k) :: rest)
  unfold lw_wf
  rw [if_neg (by omega), if_pos (by omega)]
  exact ⟨by omega, by omega, b⟩
theorem lw_pu.bin {m H H2 c : Nat} {s t : List Nat} (hs : lw_pu m H s) (ht : lw_pu m H2 t) (hH : H2 + 1 ≤ H) (h1 : 10 ≤ c) (h2 : c ≤ 17) : lw_pu m H (s ++ t ++ [c]) := by
  intro n rest a b
  rw [List.append_assoc, List.append_assoc]
  refine hs n _ a (ht (n + 1) _ (by omega) ?_)
  show lw_wf m (n + 1 + 1) (c :: rest)
  unfold lw_wf
  rw [if_neg (by omega), if_neg (by omega), if_neg (by omega)]
  exact ⟨⟨h1, h2⟩, by omega, b⟩
theorem lw_pu.not {m H : Nat} {s : List Nat} (hs : lw_pu m H s) : lw_pu m H (s ++ [18]) := by
  intro n rest a b
  rw [List.append_assoc]
  refine hs n _ a ?_
  show lw_wf m (n + 1) (18 :: rest)
  unfold lw_wf
  rw [if_neg (by omega), if_neg (by omega), if_pos rfl]
  exact ⟨by omega, b⟩
theorem lw_pu.wf {m H : Nat} {s : List Nat} (hs : lw_pu m H s) (hH : H ≤ 64) : lw_wf m 0 s := by
  have := hs 0 [] (by omega) (by unfold lw_wf; rfl)
  rwa [List.append_nil] at this
def tx_P (m H : Nat) (f : Nat → tx_R) : Prop := ∀ p x, f p = .inl x → lw_pu m H x.1
theorem tx_P.chain {T : List Nat} {m H : Nat} {item : Nat → tx_R} {op : Nat → Option Nat} (hi : tx_P m H item) (ho : ∀ p c, op p = some c → 10 ≤ c ∧ c ≤ 17) : ∀ f p z, tx_chain T item op f p = .inl z → ∀ s0, lw_pu m (H + 1) s0 → lw_pu m (H + 1) (s0 ++ z.1) := by
  intro f
  induction f with
  | zero => intro p z h s0 hs; cases h; rw [List.append_nil]; exact hs
  | succ f ih =>
    intro p z h s0 hs
    have h : (match op p with
      | none => (.inl ([], p) : tx_R)
      | some c => tx_bind (tx_bind (tx_bind (tx_on T p) item) (tx_lay c)) (tx_chain T item op f)) = .inl z := h
    cases hop : op p with
    | none => rw [hop] at h; cases h; rw [List.append_nil]; exact hs
    | some c =>
      rw [hop] at h
      obtain ⟨x1, y1, e1, e2, rfl⟩ := tx_bind_inl h
      obtain ⟨x2, y2, e3, e4, rfl⟩ := tx_bind_inl e1
      obtain ⟨x3, y3, e5, e6, rfl⟩ := tx_bind_inl e3
      cases e5
      cases e4
      have hc := ho p c hop
      have h1 := ih _ _ e2 (s0 ++ y3.1 ++ [c]) (hs.bin (hi _ _ e6) (by omega) hc.1 hc.2)
      simpa [List.append_assoc] using h1
theorem tx_P.seq {T : List Nat} {m H : Nat} {item : Nat → tx_R} {op : Nat → Option Nat} (hi : tx_P m H item) (ho : ∀ p c, op p = some c → 10 ≤ c ∧ c ≤ 17) : tx_P m (H + 1) (tx_seq T item op) := by
  intro p z h
  obtain ⟨x, y, e1, e2, rfl⟩ := tx_bind_inl h
  exact tx_P.chain hi ho _ _ _ e2 _ ((hi _ _ e1).up (by omega))
theorem tx_times_c {T : List Nat} (p c : Nat) (h : tx_times T p = some c) : 10 ≤ c ∧ c ≤ 17 := by
  unfold tx_times at h
  split at h
  · cases h; decide
  · cases h
theorem tx_pm_c {T : List Nat} (p c : Nat) (h : tx_pm T p = some c) : 10 ≤ c ∧ c ≤ 17 := by
  unfold tx_pm at h
  split at h
  · cases h; decide
  · split at h
    · cases h; decide
    · cases h
theorem tx_aw_c {T w : List Nat} {a : Nat} (h1 : 10 ≤ a) (h2 : a ≤ 17) (p c : Nat) (h : tx_aw T w a p = some c) : 10 ≤ c ∧ c ≤ 17 := by
  unfold tx_aw at h
  split at h
  · cases h; exact ⟨h1, h2⟩
  · cases h
def tx_oP (m H : Nat) (r : Option (Nat → tx_R)) : Prop := match r with
  | none => True
  | some r => tx_P m H r
theorem tx_P.atom {T : List Nat} {m H : Nat} {r : Option (Nat → tx_R)} (hm : m ≤ 8) (hH : 1 ≤ H) (hr : tx_oP m H r) : tx_P m H (tx_atom T m r) := by
  intro p z h
  unfold tx_atom at h
  cases hw : tx_word T m p with
  | some k =>
    rw [hw] at h
    cases h
    exact (lw_pu.word (tx_fw_some _ _ _ hw).1 hm).up hH
  | none =>
    rw [hw] at h
    dsimp only at h
    by_cases c : tx_k T p = 40
    · rw [if_pos c] at h
      cases r with
      | none => cases h
      | some r =>
        obtain ⟨x1, y1, e1, e2, rfl⟩ := tx_bind_inl h
        obtain ⟨x2, y2, e3, e4, rfl⟩ := tx_bind_inl e1
        cases e3
        unfold tx_must at e2
        split at e2
        · cases e2
          have := hr _ _ e4
          simpa using this
        · cases e2
    · rw [if_neg c] at h
      by_cases c2 : tx_k T p = 2
      · rw [if_pos c2] at h
        cases h
        exact (lw_pu.lit (tx_v_lt T p c2).1).up hH
      · rw [if_neg c2] at h; cases h
theorem tx_P.sumW {T : List Nat} {m H : Nat} {r : Option (Nat → tx_R)} (hm : m ≤ 8) (hH : 1 ≤ H) (hr : tx_oP m H r) : tx_P m (H + 2) (tx_sumW T m r) := tx_P.seq (item := tx_term T m r) (tx_P.seq (item := tx_atom T m r) (tx_P.atom hm hH hr) tx_times_c) tx_pm_c
theorem tx_P.sum {T : List Nat} {m : Nat} (hm : m ≤ 8) : ∀ k, tx_P m (3 + 2 * k) (tx_sum T m k) := by
  intro k
  induction k with
  | zero => exact tx_P.sumW (H := 1) (r := none) hm (by omega) trivial
  | succ k ih => exact tx_P.sumW (H := 3 + 2 * k) (r := some (tx_sum T m k)) hm (by omega) ih
theorem tx_P.trW {T : List Nat} {m H : Nat} {u : Nat → tx_R} (hu : tx_P m H u) : tx_P m (H + 2) (tx_trW T u) := tx_P.seq (item := tx_both T u) (tx_P.seq (item := u) hu (tx_aw_c (by omega) (by omega))) (tx_aw_c (by omega) (by omega))
theorem tx_P.unW {T : List Nat} {m H : Nat} {sm : Nat → tx_R} {r : Option (Nat → tx_R)} (hs : tx_P m H sm) (hr : ∀ r0, r = some r0 → tx_P m H r0 ∧ tx_P m (H + 1) (tx_trW T r0)) : tx_P m (H + 1) (tx_unW T sm r) := by
  intro p z h
  unfold tx_unW at h
  by_cases c : tx_w T p tx_not = true
  · rw [if_pos c] at h
    cases r with
    | none => cases h
    | some r =>
      obtain ⟨x1, y1, e1, e2, rfl⟩ := tx_bind_inl h
      obtain ⟨x2, y2, e3, e4, rfl⟩ := tx_bind_inl e1
      cases e3
      cases e2
      exact (((hr r rfl).1 _ _ e4).up (by omega)).not
  · rw [if_neg c] at h
    by_cases c2 : tx_k T p = 91
    · rw [if_pos c2] at h
      cases r with
      | none => cases h
      | some r =>
        obtain ⟨x1, y1, e1, e2, rfl⟩ := tx_bind_inl h
        obtain ⟨x2, y2, e3, e4, rfl⟩ := tx_bind_inl e1
        cases e3
        unfold tx_must at e2
        split at e2
        · cases e2
          have := (hr r rfl).2 _ _ e4
          simpa using this
        · cases e2
    · rw [if_neg c2] at h
      obtain ⟨x1, y1, e1, e2, rfl⟩ := tx_bind_inl h
      unfold tx_cp at e2
      cases hc : tx_cmp (tx_k T x1.2) with
      | none => rw [hc] at e2; cases e2
      | some c =>
        rw [hc] at e2
        obtain ⟨x3, y3, e3, e4, rfl⟩ := tx_bind_inl e2
        obtain ⟨x4, y4, e5, e6, rfl⟩ := tx_bind_inl e3
        cases e5
        cases e4
        have hcc : 10 ≤ c ∧ c ≤ 17 := by
          unfold tx_cmp at hc
          split at hc
          · cases hc; decide
          · split at hc
            · cases hc; decide
            · split at hc
              · cases hc; decide
              · cases hc
        have := ((hs _ _ e1).up (show H ≤ H + 1 by omega)).bin (hs _ _ e6) (by omega) hcc.1 hcc.2
        simpa [List.append_assoc] using this
theorem tx_P.unit {T : List Nat} {m : Nat} (hm : m ≤ 8) : ∀ k, tx_P m (4 + 2 * k) (tx_unit T m k) := by
  intro k
  induction k with
  | zero => exact tx_P.unW (H := 3) (r := none) (tx_P.sum hm 0) (fun _ e => by cases e)
  | succ k ih =>
    have h1 : tx_P m (3 + 2 * (k + 1) + 1) (tx_unW T (tx_sum T m (k + 1)) (some (tx_unit T m k))) := tx_P.unW (tx_P.sum hm (k + 1)) (fun r0 e => by
      cases e
      refine ⟨fun p x hx => (ih p x hx).up (by omega), fun p x hx => (tx_P.trW ih p x hx).up (by omega)⟩)
    exact fun p x hx => (h1 p x hx).up (by omega)
theorem tx_P.truth {T : List Nat} {m : Nat} (hm : m ≤ 8) (k : Nat) : tx_P m (6 + 2 * k) (tx_truth T m k) := fun p x hx => (tx_P.trW (tx_P.unit hm k) p x hx).up (by omega)
/-! ===== what is read is a napkin ===== -/
def tx_NI (N : tx_N) : Prop := N.1.length ≤ 6 ∧ N.2.1.length = N.1.length ∧ N.2.2.1.length ≤ 4 ∧ (∀ i, N.1.getD i 0 < 100) ∧ (∀ i, N.2.1.getD i 0 < 100) ∧ (∀ i, N.2.2.1.getD i 0 < 100) ∧
  ((N.2.2.2.2.1 = [] ∨ lw_wf 6 0 N.2.2.2.2.1) ∧ N.2.2.2.2.1.length ≤ 900) ∧ ((N.2.2.2.2.2.1 = [] ∨ lw_wf 6 0 N.2.2.2.2.2.1) ∧ N.2.2.2.2.2.1.length ≤ 900) ∧ ((N.2.2.2.2.2.2 = [] ∨ lw_wf 8 0 N.2.2.2.2.2.2) ∧ N.2.2.2.2.2.2.length ≤ 900)
theorem l_getD_app {xs : List Nat} {a B : Nat} (h : ∀ i, xs.getD i 0 < B) (ha : a < B) : ∀ i, (xs ++ [a]).getD i 0 < B := by
  intro i
  rw [List.getD_eq_getElem?_getD]
  by_cases c : i < xs.length
  · rw [List.getElem?_append_left c, ← List.getD_eq_getElem?_getD]; exact h i
  · rw [List.getElem?_append_right (by omega)]
    have h0 := h i
    cases e : i - xs.length with
    | zero => exact ha
    | succ k => simp; omega
theorem tx_num_inl {T : List Nat} {hi p : Nat} {z : List Nat × Nat} (h : tx_num T hi p = .inl z) : tx_k T p = 2 ∧ tx_v T p ≤ hi ∧ z = ([tx_v T p], tx_h T p) := by
  unfold tx_num at h
  split at h
  · split at h
    · cases h; exact ⟨by assumption, by assumption, rfl⟩
    · cases h
  · cases h
theorem tx_lcell_inl {T : List Nat} {n p : Nat} {z : List Nat × Nat} (h : tx_lcell T n p = .inl z) : n ≠ 6 ∧ ∃ a b, a < 100 ∧ b < 100 ∧ z.1 = [a, b] := by
  obtain ⟨x1, y1, e1, e2, rfl⟩ := tx_bind_inl h
  obtain ⟨x2, y2, e3, e4, rfl⟩ := tx_bind_inl e1
  obtain ⟨x3, y3, e5, e6, rfl⟩ := tx_bind_inl e3
  obtain ⟨-, q2, rfl⟩ := tx_num_inl e2
  obtain ⟨-, q4, rfl⟩ := tx_num_inl e6
  unfold tx_full at e5
  split at e5
  · cases e5
  · next c =>
    cases e5
    unfold tx_mw at e4
    split at e4
    · cases e4
      refine ⟨fun e => c (by rw [e]; rfl), _, _, ?_, ?_, rfl⟩
      · omega
      · omega
    · cases e4
theorem tx_lguest_inl {T : List Nat} {n p : Nat} {z : List Nat × Nat} (h : tx_lguest T n p = .inl z) : n ≠ 4 ∧ ∃ a, a < 100 ∧ z.1 = [a] := by
  obtain ⟨x1, y1, e1, e2, rfl⟩ := tx_bind_inl h
  obtain ⟨-, q2, rfl⟩ := tx_num_inl e2
  unfold tx_full at e1
  split at e1
  · cases e1
  · next c =>
    cases e1
    exact ⟨fun e => c (by rw [e]; rfl), _, by omega, rfl⟩
theorem tx_llaw_inl {T : List Nat} {f : Nat → tx_R} {p : Nat} {z : List Nat × Nat} (h : tx_llaw T f p = .inl z) : ∃ q y, f q = .inl y ∧ z.1 = y.1 := by
  obtain ⟨x1, y1, e1, e2, rfl⟩ := tx_bind_inl h
  obtain ⟨x2, y2, e3, e4, rfl⟩ := tx_bind_inl e1
  cases e3
  unfold tx_must at e4
  split at e4
  · cases e4; exact ⟨_, y1, e2, by simp⟩
  · cases e4
theorem tx_sort_k {T : List Nat} {p : Nat} (h : tx_sort T p ≠ 5) : tx_k T p = 1 := by
  unfold tx_sort at h
  split at h
  · exact tx_w_k (by assumption)
  · split at h
    · exact tx_w_k (by assumption)
    · split at h
      · exact tx_w_k (by assumption)
      · split at h
        · exact tx_w_k (by assumption)
        · split at h
          · exact tx_w_k (by assumption)
          · exact absurd rfl h
theorem tx_sort_le (T : List Nat) (p : Nat) : tx_sort T p ≤ 5 := by
  unfold tx_sort
  split
  · omega
  · split
    · omega
    · split
      · omega
      · split
        · omega
        · split <;> omega
theorem tx_G_llaw {T : List Nat} {f : Nat → tx_R} (hf : tx_G T f) {p : Nat} (hp : p ≤ T.length) (hk : tx_k T p ≠ 0) : tx_gd T (p + 1) (tx_llaw T f p) := tx_gd_bind (tx_gd_bind (tx_gd_on hp hk) (tx_G_must T 58)) hf
theorem tx_gd_full {T : List Nat} {b : Bool} {p : Nat} (hp : p ≤ T.length) (hk : tx_k T p ≠ 0) : tx_gd T (p + 1) (tx_full T b p) := by
  unfold tx_full
  split
  · exact tx_gd_r hp (by omega) (by omega)
  · exact tx_gd_on hp hk
theorem tx_gd_body {T : List Nat} (N : tx_N) {p : Nat} (hp : p ≤ T.length) : tx_gd T (p + 1) (tx_body T N (tx_sort T p) p) := by
  have h5 := tx_sort_le T p
  by_cases e5 : tx_sort T p = 5
  · rw [e5]; exact tx_gd_e hp
  · have hk := tx_sort_k e5
    have hk : tx_k T p ≠ 0 := by omega
    generalize tx_sort T p = s at *
    match s, h5, e5 with
    | 0, _, _ => exact tx_gd_bind (tx_gd_bind (tx_gd_bind (tx_gd_full hp hk) (tx_G_num T 99)) (tx_G_mw T _)) (tx_G_num T 99)
    | 1, _, _ => exact tx_gd_bind (tx_gd_full hp hk) (tx_G_num T 99)
    | 2, _, _ => exact tx_G_llaw (tx_G_sum T 6 6) hp hk
    | 3, _, _ => exact tx_G_llaw (tx_G_truth T 6 6) hp hk
    | 4, _, _ => exact tx_G_llaw (tx_G_sum T 8 6) hp hk
    | s + 5, h5, e5 => omega
theorem tx_NI_line {T : List Nat} {N : tx_N} {p : Nat} {x : tx_N × Nat} (hT : T.length ≤ 900) (hp : p ≤ T.length) (hN : tx_NI N) (h : tx_line T N p = .inl x) : tx_NI x.1 ∧ p < x.2 ∧ x.2 ≤ T.length ∧ x.1.2.2.2.1 = N.2.2.2.1 + 1 := by
  unfold tx_line at h
  have hb := tx_gd_body N hp
  have hg := tx_gd_bind hb (tx_G_must T 59)
  cases hq : tx_bind (tx_body T N (tx_sort T p) p) (tx_must T 59) with
  | inr e => rw [hq] at h; cases h
  | inl z =>
    rw [hq] at h hg
    cases h
    obtain ⟨x1, y1, e1, e2, e3⟩ := tx_bind_inl hq
    have ey : y1.1 = [] := by
      unfold tx_must at e2
      split at e2
      · cases e2; rfl
      · cases e2
    have ez : z.1 = x1.1 := by rw [e3, ey, List.append_nil]
    have hg : p + 1 + z.1.length ≤ z.2 ∧ z.2 ≤ T.length := hg
    have hlen : x1.1.length ≤ 900 := by rw [← ez]; omega
    refine ⟨?_, by show p < z.2; omega, hg.2, ?_⟩
    · rw [ez]
      have h5 := tx_sort_le T p
      generalize tx_sort T p = s at *
      obtain ⟨n1, n2, n3, n4, n5, n6, n7, n8, n9⟩ := hN
      match s, h5, e1 with
      | 0, _, e1 =>
        obtain ⟨q1, a, b, ha, hb2, ex⟩ := tx_lcell_inl e1
        rw [ex]
        refine ⟨?_, ?_, n3, l_getD_app n4 ha, l_getD_app n5 hb2, n6, n7, n8, n9⟩
        · show (N.1 ++ [a]).length ≤ 6
          rw [List.length_append, List.length_singleton]; omega
        · show (N.2.1 ++ [b]).length = (N.1 ++ [a]).length
          rw [List.length_append, List.length_append, List.length_singleton, List.length_singleton]; omega
      | 1, _, e1 =>
        obtain ⟨q1, a, ha, ex⟩ := tx_lguest_inl e1
        rw [ex]
        refine ⟨n1, n2, ?_, n4, n5, l_getD_app n6 ha, n7, n8, n9⟩
        show (N.2.2.1 ++ [a]).length ≤ 4
        rw [List.length_append, List.length_singleton]; omega
      | 2, _, e1 =>
        obtain ⟨q, y, e4, e5⟩ := tx_llaw_inl e1
        exact ⟨n1, n2, n3, n4, n5, n6, ⟨Or.inr (by show lw_wf 6 0 x1.1; rw [e5]; exact (tx_P.sum (by omega) 6 _ _ e4).wf (by omega)), hlen⟩, n8, n9⟩
      | 3, _, e1 =>
        obtain ⟨q, y, e4, e5⟩ := tx_llaw_inl e1
        exact ⟨n1, n2, n3, n4, n5, n6, n7, ⟨Or.inr (by show lw_wf 6 0 x1.1; rw [e5]; exact (tx_P.truth (by omega) 6 _ _ e4).wf (by omega)), hlen⟩, n9⟩
      | 4, _, e1 =>
        obtain ⟨q, y, e4, e5⟩ := tx_llaw_inl e1
        exact ⟨n1, n2, n3, n4, n5, n6, n7, n8, ⟨Or.inr (by show lw_wf 8 0 x1.1; rw [e5]; exact (tx_P.sum (by omega) 6 _ _ e4).wf (by omega)), hlen⟩⟩
      | 5, _, e1 => cases e1
      | s + 6, h5, e1 => omega
    · generalize tx_sort T p = s
      match s with
      | 0 => rfl
      | 1 => rfl
      | 2 => rfl
      | 3 => rfl
      | s + 4 => rfl
theorem tx_line_inr {T : List Nat} {N : tx_N} {p : Nat} {e : Nat × Nat} (hp : p ≤ T.length) (h : tx_line T N p = .inr e) : (1 ≤ e.1 ∧ e.1 ≤ 4) ∧ e.2 ≤ T.length := by
  unfold tx_line at h
  have hg := tx_gd_bind (tx_gd_body N hp) (tx_G_must T 59)
  cases hq : tx_bind (tx_body T N (tx_sort T p) p) (tx_must T 59) with
  | inr e2 => rw [hq] at h hg; cases h; exact hg
  | inl z => rw [hq] at h; cases h
theorem tx_all_ok {T : List Nat} (hT : T.length ≤ 900) : ∀ f N p, p ≤ T.length → tx_NI N → N.2.2.2.1 ≤ p → (match tx_all T f N p with
    | .inl N2 => tx_NI N2 ∧ N2.2.2.2.1 ≤ 900
    | .inr e => (1 ≤ e.1 ∧ e.1 ≤ 4) ∧ e.2 ≤ T.length) := by
  intro f
  induction f with
  | zero => intro N p hp hN hl; exact ⟨hN, by omega⟩
  | succ f ih =>
    intro N p hp hN hl
    rw [tx_all]
    by_cases c : tx_k T p = 0
    · rw [if_pos c]; exact ⟨hN, by omega⟩
    · rw [if_neg c]
      cases hq : tx_line T N p with
      | inr e => exact tx_line_inr hp hq
      | inl x =>
        obtain ⟨a1, a2, a3, a4⟩ := tx_NI_line hT hp hN hq
        exact ih x.1 x.2 a3 a1 (by omega)
theorem tx_0_ok : tx_NI tx_0 := ⟨Nat.zero_le _, rfl, Nat.zero_le _, fun i => by simp [tx_0], fun i => by simp [tx_0], fun i => by simp [tx_0], ⟨Or.inl rfl, Nat.zero_le _⟩, ⟨Or.inl rfl, Nat.zero_le _⟩, ⟨Or.inl rfl, Nat.zero_le _⟩⟩
theorem tx_read_ok {T : List Nat} (hT : T.length ≤ 900) : (match tx_read T with
    | .inl N2 => tx_NI N2 ∧ N2.2.2.2.1 ≤ 900
    | .inr e => (1 ≤ e.1 ∧ e.1 ≤ 4) ∧ e.2 ≤ T.length) := tx_all_ok hT _ _ _ (Nat.zero_le _) tx_0_ok (Nat.zero_le _)
theorem tx_nk_ok {N : tx_N} (h : tx_NI N) (hl : N.2.2.2.1 ≤ 900) : sp_ok (tx_nk N, ([], N.1, N.2.1), []) := by
  obtain ⟨n1, n2, n3, n4, n5, n6, n7, n8, n9⟩ := h
  exact ⟨⟨n1, hl, n3, fun i _ => n6 i, n7.1, n7.2, n8.1, n8.2, n9.1, n9.2⟩, ⟨trivial, rfl, n2, n4, n5⟩, Nat.zero_le _, fun s hs => by cases hs⟩
theorem op_napkin_ok {x : Int32} {S : sy_S} (hS : sy_ok S) : sy_ok (op_napkin x S).2.2 := by
  obtain ⟨s1, s2, s3, s4, s5, s6⟩ := hS
  unfold op_napkin
  split
  · unfold op_napT
    have hT : ((sy_b S).take x.toNatClampNeg).length ≤ 900 := by rw [List.length_take]; omega
    have h := tx_read_ok hT
    cases hq : tx_read ((sy_b S).take x.toNatClampNeg) with
    | inl N =>
      rw [hq] at h
      exact ⟨tx_nk_ok h.1 h.2, s2, s3, Nat.zero_le _, fun i => by show ([] : List Nat).getD i 0 < 256; simp, Nat.zero_le _⟩
    | inr e =>
      rw [hq] at h
      exact ⟨s1, s2, s3, Nat.zero_le _, fun i => by show ([] : List Nat).getD i 0 < 256; simp, h.1.2⟩
  · exact ⟨s1, s2, s3, s4, s5, s6⟩

