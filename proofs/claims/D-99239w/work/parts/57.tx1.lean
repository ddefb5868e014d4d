/-! ===== the text: bytes, tokens, laws (plain) ===== -/
def tx_run (q : Nat → Bool) (T : List Nat) : Nat → Nat → Nat
  | 0, p => p
  | f + 1, p => if p < T.length ∧ q (T.getD p 0) = true then tx_run q T f (p + 1) else p
def tx_end (q : Nat → Bool) (T : List Nat) (p : Nat) : Nat := tx_run q T (T.length - p) p
theorem tx_end_eq (q : Nat → Bool) (T : List Nat) (p : Nat) : tx_end q T p = if p < T.length ∧ q (T.getD p 0) = true then tx_end q T (p + 1) else p := by
  unfold tx_end
  by_cases h : p < T.length ∧ q (T.getD p 0) = true
  · rw [if_pos h]
    have e : T.length - p = (T.length - (p + 1)) + 1 := by omega
    rw [e]
    show (if p < T.length ∧ q (T.getD p 0) = true then tx_run q T (T.length - (p + 1)) (p + 1) else p) = _
    rw [if_pos h]
  · rw [if_neg h]
    generalize T.length - p = f
    cases f with
    | zero => rfl
    | succ f => show (if p < T.length ∧ q (T.getD p 0) = true then tx_run q T f (p + 1) else p) = _; rw [if_neg h]
theorem tx_run_ge (q : Nat → Bool) (T : List Nat) : ∀ f p, p ≤ tx_run q T f p := by
  intro f
  induction f with
  | zero => intro p; exact Nat.le_refl _
  | succ f ih =>
    intro p
    show p ≤ (if p < T.length ∧ q (T.getD p 0) = true then tx_run q T f (p + 1) else p)
    split
    · have := ih (p + 1); omega
    · omega
theorem tx_run_le (q : Nat → Bool) (T : List Nat) : ∀ f p, p ≤ T.length → tx_run q T f p ≤ T.length := by
  intro f
  induction f with
  | zero => intro p h; exact h
  | succ f ih =>
    intro p h
    show (if p < T.length ∧ q (T.getD p 0) = true then tx_run q T f (p + 1) else p) ≤ T.length
    split
    · next c => exact ih (p + 1) (by omega)
    · exact h
theorem tx_end_ge (q : Nat → Bool) (T : List Nat) (p : Nat) : p ≤ tx_end q T p := tx_run_ge q T _ p
theorem tx_end_le (q : Nat → Bool) (T : List Nat) {p : Nat} (h : p ≤ T.length) : tx_end q T p ≤ T.length := tx_run_le q T _ p h
theorem tx_end_gt {q : Nat → Bool} {T : List Nat} {p : Nat} (h1 : p < T.length) (h2 : q (T.getD p 0) = true) : p < tx_end q T p := by
  rw [tx_end_eq, if_pos ⟨h1, h2⟩]
  have := tx_end_ge q T (p + 1)
  omega
def tx_sp (c : Nat) : Bool := c == 32 || c == 10
def tx_al (c : Nat) : Bool := decide (97 ≤ c) && decide (c ≤ 122)
def tx_dg (c : Nat) : Bool := decide (48 ≤ c) && decide (c ≤ 57)
def tx_sg (c : Nat) : Bool := c == 91 || c == 93 || c == 61 || c == 60 || c == 62 || c == 58 || c == 59 || c == 43 || c == 45 || c == 42 || c == 40 || c == 41
/-- a token behind p: where it begins, its first byte, where it ends, its kind (0 end, 1 word, 2 number, 3 bad, or the sign) -/
def tx_b (T : List Nat) (p : Nat) : Nat := tx_end tx_sp T p
def tx_c (T : List Nat) (p : Nat) : Nat := T.getD (tx_b T p) 0
def tx_h (T : List Nat) (p : Nat) : Nat := if T.length ≤ tx_b T p then tx_b T p else if tx_al (tx_c T p) = true then tx_end tx_al T (tx_b T p) else if tx_dg (tx_c T p) = true then tx_end tx_dg T (tx_b T p) else tx_b T p + 1
def tx_k (T : List Nat) (p : Nat) : Nat := if T.length ≤ tx_b T p then 0 else if tx_al (tx_c T p) = true then 1 else if tx_dg (tx_c T p) = true then (if 3 < tx_end tx_dg T (tx_b T p) - tx_b T p then 3 else 2) else if tx_sg (tx_c T p) = true then tx_c T p else 3
def tx_nm (T : List Nat) (b : Nat) : Nat → Nat
  | 0 => 0
  | k + 1 => if k < 3 then 10 * tx_nm T b k + T.getD (b + k) 0 - 48 else tx_nm T b k
def tx_v (T : List Nat) (p : Nat) : Nat := tx_nm T (tx_b T p) (tx_h T p - tx_b T p)
/-- it is this word -/
def tx_w (T : List Nat) (p : Nat) (w : List Nat) : Bool := decide (tx_k T p = 1) && decide (tx_h T p - tx_b T p = w.length) && (List.range w.length).all (fun k => T.getD (tx_b T p + k) 0 == w.getD k 0)
theorem tx_sg_in {c : Nat} (h : tx_sg c = true) : 40 ≤ c ∧ c ≤ 93 := by
  simp only [tx_sg, Bool.or_eq_true, beq_iff_eq] at h
  omega
theorem tx_b_ge (T : List Nat) (p : Nat) : p ≤ tx_b T p := tx_end_ge _ _ _
theorem tx_b_le (T : List Nat) {p : Nat} (h : p ≤ T.length) : tx_b T p ≤ T.length := tx_end_le _ _ h
theorem tx_h_ge (T : List Nat) (p : Nat) : tx_b T p ≤ tx_h T p := by
  unfold tx_h
  split
  · exact Nat.le_refl _
  · split
    · exact tx_end_ge _ _ _
    · split
      · exact tx_end_ge _ _ _
      · omega
theorem tx_h_le (T : List Nat) {p : Nat} (h : p ≤ T.length) : tx_h T p ≤ T.length := by
  have hb := tx_b_le T h
  unfold tx_h
  split
  · exact hb
  · split
    · exact tx_end_le _ _ hb
    · split
      · exact tx_end_le _ _ hb
      · omega
theorem tx_h_gt {T : List Nat} {p : Nat} (h : tx_k T p ≠ 0) : tx_b T p < tx_h T p := by
  unfold tx_k at h
  unfold tx_h
  by_cases c : T.length ≤ tx_b T p
  · rw [if_pos c] at h; exact absurd rfl h
  · rw [if_neg c]
    split
    · next q => exact tx_end_gt (by omega) q
    · split
      · next q => exact tx_end_gt (by omega) q
      · omega
theorem tx_k_lt (T : List Nat) (p : Nat) : tx_k T p ≤ 93 := by
  unfold tx_k
  split
  · omega
  · split
    · omega
    · split
      · split <;> omega
      · split
        · next q => exact (tx_sg_in q).2
        · omega
theorem tx_w_k {T : List Nat} {p : Nat} {w : List Nat} (h : tx_w T p w = true) : tx_k T p = 1 := by
  unfold tx_w at h
  rw [Bool.and_eq_true, Bool.and_eq_true] at h
  exact of_decide_eq_true h.1.1
theorem tx_nm_lt (T : List Nat) (b : Nat) : ∀ k, (∀ i, i < k → T.getD (b + i) 0 ≤ 57) → tx_nm T b k < 10 ^ (min k 3) := by
  intro k
  induction k with
  | zero => intro _; show 0 < 10 ^ 0; decide
  | succ k ih =>
    intro h
    have h1 := ih (fun i hi => h i (by omega))
    have h2 := h k (by omega)
    show (if k < 3 then 10 * tx_nm T b k + T.getD (b + k) 0 - 48 else tx_nm T b k) < _
    split
    · next c =>
      rw [Nat.min_eq_left (by omega)] at h1 ⊢
      rw [Nat.pow_succ]
      omega
    · next c =>
      rw [Nat.min_eq_right (by omega)] at h1 ⊢
      exact h1
theorem tx_run_in (q : Nat → Bool) (T : List Nat) : ∀ f p i, p ≤ i → i < tx_run q T f p → i < T.length ∧ q (T.getD i 0) = true := by
  intro f
  induction f with
  | zero => intro p i h1 h2; have h2 : i < p := h2; omega
  | succ f ih =>
    intro p i h1 h2
    have h2 : i < (if p < T.length ∧ q (T.getD p 0) = true then tx_run q T f (p + 1) else p) := h2
    split at h2
    · next c =>
      by_cases e : i = p
      · subst e; exact c
      · exact ih (p + 1) i (by omega) h2
    · omega
theorem tx_end_in {q : Nat → Bool} {T : List Nat} {p i : Nat} (h1 : p ≤ i) (h2 : i < tx_end q T p) : i < T.length ∧ q (T.getD i 0) = true := tx_run_in q T _ p i h1 h2
theorem tx_v_lt (T : List Nat) (p : Nat) (h : tx_k T p = 2) : tx_v T p < 1000 ∧ tx_b T p < T.length ∧ tx_dg (tx_c T p) = true ∧ tx_al (tx_c T p) = false ∧ tx_h T p = tx_end tx_dg T (tx_b T p) := by
  unfold tx_k at h
  by_cases c : T.length ≤ tx_b T p
  · rw [if_pos c] at h; omega
  · rw [if_neg c] at h
    by_cases c1 : tx_al (tx_c T p) = true
    · rw [if_pos c1] at h; omega
    · rw [if_neg c1] at h
      by_cases c2 : tx_dg (tx_c T p) = true
      · have e : tx_h T p = tx_end tx_dg T (tx_b T p) := by unfold tx_h; rw [if_neg c, if_neg c1, if_pos c2]
        refine ⟨?_, by omega, c2, by simpa using c1, e⟩
        have := tx_nm_lt T (tx_b T p) (tx_h T p - tx_b T p) (fun i hi => by
          have h9 := (tx_end_in (q := tx_dg) (T := T) (p := tx_b T p) (i := tx_b T p + i) (by omega) (by rw [← e]; omega)).2
          unfold tx_dg at h9
          rw [Bool.and_eq_true] at h9
          exact of_decide_eq_true h9.2)
        have h3 : 10 ^ min (tx_h T p - tx_b T p) 3 ≤ 10 ^ 3 := Nat.pow_le_pow_right (by decide) (Nat.min_le_right _ _)
        unfold tx_v
        omega
      · rw [if_neg c2] at h
        split at h
        · next q => have := tx_sg_in q; omega
        · omega
/-! what is read: steps and the place behind, or a fault's kind and place -/
abbrev tx_R : Type := (List Nat × Nat) ⊕ (Nat × Nat)
def tx_e (T : List Nat) (p k : Nat) : Nat × Nat := (if tx_k T p = 3 then 1 else k, tx_b T p)
def tx_bind (r : tx_R) (f : Nat → tx_R) : tx_R := match r with
  | .inl x => (match f x.2 with
    | .inl y => .inl (x.1 ++ y.1, y.2)
    | .inr e => .inr e)
  | .inr e => .inr e
theorem tx_bind_e (e : Nat × Nat) (f : Nat → tx_R) : tx_bind (.inr e) f = .inr e := rfl
theorem tx_bind_0 (p : Nat) (f : Nat → tx_R) : tx_bind (.inl ([], p)) f = f p := by
  show (match f p with
    | .inl y => (.inl ([] ++ y.1, y.2) : tx_R)
    | .inr e => .inr e) = f p
  cases f p <;> rfl
theorem tx_bind_a (r : tx_R) (f g : Nat → tx_R) : tx_bind (tx_bind r f) g = tx_bind r (fun p => tx_bind (f p) g) := by
  cases r with
  | inr e => rfl
  | inl x =>
    show tx_bind (match f x.2 with
      | .inl y => (.inl (x.1 ++ y.1, y.2) : tx_R)
      | .inr e => .inr e) g = (match tx_bind (f x.2) g with
      | .inl y => (.inl (x.1 ++ y.1, y.2) : tx_R)
      | .inr e => .inr e)
    cases f x.2 with
    | inr e => rfl
    | inl y =>
      show (match g y.2 with
        | .inl z => (.inl ((x.1 ++ y.1) ++ z.1, z.2) : tx_R)
        | .inr e => .inr e) = (match (match g y.2 with
          | .inl z => (.inl (y.1 ++ z.1, z.2) : tx_R)
          | .inr e => .inr e) with
        | .inl y => (.inl (x.1 ++ y.1, y.2) : tx_R)
        | .inr e => .inr e)
      cases g y.2 with
      | inr e => rfl
      | inl z => simp [List.append_assoc]
def tx_lay (c : Nat) (p : Nat) : tx_R := .inl ([c], p)
def tx_on (T : List Nat) (p : Nat) : tx_R := .inl ([], tx_h T p)
def tx_must (T : List Nat) (k p : Nat) : tx_R := if tx_k T p = k then .inl ([], tx_h T p) else .inr (tx_e T p 2)
def tx_mw (T : List Nat) (w : List Nat) (p : Nat) : tx_R := if tx_w T p w = true then .inl ([], tx_h T p) else .inr (tx_e T p 2)
def tx_num (T : List Nat) (hi p : Nat) : tx_R := if tx_k T p = 2 then (if tx_v T p ≤ hi then .inl ([tx_v T p], tx_h T p) else .inr (3, tx_b T p)) else .inr (tx_e T p 2)
def tx_full (T : List Nat) (b : Bool) (p : Nat) : tx_R := if b = true then .inr (4, tx_b T p) else .inl ([], tx_h T p)
def tx_chain (T : List Nat) (item : Nat → tx_R) (op : Nat → Option Nat) : Nat → Nat → tx_R
  | 0, p => .inl ([], p)
  | f + 1, p => match op p with
    | none => .inl ([], p)
    | some c => tx_bind (tx_bind (tx_bind (tx_on T p) item) (tx_lay c)) (tx_chain T item op f)
def tx_seq (T : List Nat) (item : Nat → tx_R) (op : Nat → Option Nat) (p : Nat) : tx_R := tx_bind (item p) (tx_chain T item op (T.length + 1))
/-- the words of laws -/
def tx_ws : List (List Nat) := [[119, 105, 100, 101], [104, 105, 103, 104], [102, 111, 108, 100, 115], [116, 111, 112], [117, 110, 100, 101, 114], [104, 105, 100, 100, 101, 110], [103, 117, 101, 115, 116], [119, 97, 110, 116]]
/-- the first of the words k .. m - 1 that it is -/
def tx_fw (T : List Nat) (p m : Nat) : Nat → Nat → Option Nat
  | 0, _ => none
  | f + 1, k => if m ≤ k then none else if tx_w T p (tx_ws.getD k []) = true then some k else tx_fw T p m f (k + 1)
def tx_word (T : List Nat) (m p : Nat) : Option Nat := tx_fw T p m 9 0
def tx_atom (T : List Nat) (m : Nat) (r : Option (Nat → tx_R)) (p : Nat) : tx_R := match tx_word T m p with
  | some k => tx_bind (tx_on T p) (tx_lay (100 + k))
  | none => if tx_k T p = 40 then (match r with
    | none => .inr (4, tx_b T p)
    | some r => tx_bind (tx_bind (tx_on T p) r) (tx_must T 41)) else if tx_k T p = 2 then tx_bind (tx_on T p) (tx_lay (1000 + tx_v T p)) else .inr (tx_e T p 2)
def tx_times (T : List Nat) (p : Nat) : Option Nat := if tx_k T p = 42 then some 12 else none
def tx_pm (T : List Nat) (p : Nat) : Option Nat := if tx_k T p = 43 then some 10 else if tx_k T p = 45 then some 11 else none
def tx_term (T : List Nat) (m : Nat) (r : Option (Nat → tx_R)) (p : Nat) : tx_R := tx_seq T (tx_atom T m r) (tx_times T) p
def tx_sumW (T : List Nat) (m : Nat) (r : Option (Nat → tx_R)) (p : Nat) : tx_R := tx_seq T (tx_term T m r) (tx_pm T) p
/-- a sum, k times deeper at most -/
def tx_sum (T : List Nat) (m : Nat) : Nat → Nat → tx_R
  | 0 => tx_sumW T m none
  | k + 1 => tx_sumW T m (some (tx_sum T m k))
/-- the same, one level down -/
def tx_dn (f : Nat → Nat → tx_R) (k : Nat) : Option (Nat → tx_R) := match k with
  | 0 => none
  | k + 1 => some (f k)
theorem tx_sum_eq (T : List Nat) (m k : Nat) : tx_sum T m k = tx_sumW T m (tx_dn (tx_sum T m) k) := by
  cases k <;> rfl
def tx_not : List Nat := [110, 111, 116]
def tx_and : List Nat := [97, 110, 100]
def tx_or : List Nat := [111, 114]
def tx_aw (T : List Nat) (w : List Nat) (c p : Nat) : Option Nat := if tx_w T p w = true then some c else none
def tx_both (T : List Nat) (u : Nat → tx_R) (p : Nat) : tx_R := tx_seq T u (tx_aw T tx_and 16) p
def tx_trW (T : List Nat) (u : Nat → tx_R) (p : Nat) : tx_R := tx_seq T (tx_both T u) (tx_aw T tx_or 17) p
def tx_cmp (k : Nat) : Option Nat := if k = 61 then some 13 else if k = 60 then some 14 else if k = 62 then some 15 else none
def tx_cp (T : List Nat) (sm : Nat → tx_R) (p : Nat) : tx_R := match tx_cmp (tx_k T p) with
  | none => .inr (tx_e T p 2)
  | some c => tx_bind (tx_bind (tx_on T p) sm) (tx_lay c)
def tx_unW (T : List Nat) (sm : Nat → tx_R) (r : Option (Nat → tx_R)) (p : Nat) : tx_R :=
  if tx_w T p tx_not = true then (match r with
    | none => .inr (4, tx_b T p)
    | some r => tx_bind (tx_bind (tx_on T p) r) (tx_lay 18))
  else if tx_k T p = 91 then (match r with
    | none => .inr (4, tx_b T p)
    | some r => tx_bind (tx_bind (tx_on T p) (tx_trW T r)) (tx_must T 93))
  else tx_bind (sm p) (tx_cp T sm)
def tx_unit (T : List Nat) (m : Nat) : Nat → Nat → tx_R
  | 0 => tx_unW T (tx_sum T m 0) none
  | k + 1 => tx_unW T (tx_sum T m (k + 1)) (some (tx_unit T m k))
theorem tx_unit_eq (T : List Nat) (m k : Nat) : tx_unit T m k = tx_unW T (tx_sum T m k) (tx_dn (tx_unit T m) k) := by
  cases k <;> rfl
def tx_truth (T : List Nat) (m k : Nat) : Nat → tx_R := tx_trW T (tx_unit T m k)
/-! a line: fronts, backs, guests, lines, three laws -/
abbrev tx_N : Type := List Nat × List Nat × List Nat × Nat × List Nat × List Nat × List Nat
def tx_cell : List Nat := [99, 101, 108, 108]
def tx_back : List Nat := [98, 97, 99, 107]
def tx_guest : List Nat := [103, 117, 101, 115, 116]
def tx_worth : List Nat := [119, 111, 114, 116, 104]
def tx_holds : List Nat := [104, 111, 108, 100, 115]
def tx_likes : List Nat := [108, 105, 107, 101, 115]
def tx_lcell (T : List Nat) (n p : Nat) : tx_R := tx_bind (tx_bind (tx_bind (tx_full T (n == 6) p) (tx_num T 99)) (tx_mw T tx_back)) (tx_num T 99)
def tx_lguest (T : List Nat) (n p : Nat) : tx_R := tx_bind (tx_full T (n == 4) p) (tx_num T 99)
def tx_llaw (T : List Nat) (f : Nat → tx_R) (p : Nat) : tx_R := tx_bind (tx_bind (tx_on T p) (tx_must T 58)) f
/-- which sort of line it is -/
def tx_sort (T : List Nat) (p : Nat) : Nat := if tx_w T p tx_cell = true then 0 else if tx_w T p tx_guest = true then 1 else if tx_w T p tx_worth = true then 2 else if tx_w T p tx_holds = true then 3 else if tx_w T p tx_likes = true then 4 else 5
def tx_body (T : List Nat) (N : tx_N) (s p : Nat) : tx_R := match s with
  | 0 => tx_lcell T N.1.length p
  | 1 => tx_lguest T N.2.2.1.length p
  | 2 => tx_llaw T (tx_sum T 6 6) p
  | 3 => tx_llaw T (tx_truth T 6 6) p
  | 4 => tx_llaw T (tx_sum T 8 6) p
  | _ => .inr (tx_e T p 2)
def tx_put (N : tx_N) (s : Nat) (x : List Nat) : tx_N := match s with
  | 0 => (N.1 ++ [x.getD 0 0], N.2.1 ++ [x.getD 1 0], N.2.2)
  | 1 => (N.1, N.2.1, N.2.2.1 ++ [x.getD 0 0], N.2.2.2)
  | 2 => (N.1, N.2.1, N.2.2.1, N.2.2.2.1, x, N.2.2.2.2.2)
  | 3 => (N.1, N.2.1, N.2.2.1, N.2.2.2.1, N.2.2.2.2.1, x, N.2.2.2.2.2.2)
  | _ => (N.1, N.2.1, N.2.2.1, N.2.2.2.1, N.2.2.2.2.1, N.2.2.2.2.2.1, x)
def tx_ln1 (N : tx_N) : tx_N := (N.1, N.2.1, N.2.2.1, N.2.2.2.1 + 1, N.2.2.2.2)
def tx_line (T : List Nat) (N : tx_N) (p : Nat) : (tx_N × Nat) ⊕ (Nat × Nat) := match tx_bind (tx_body T N (tx_sort T p) p) (tx_must T 59) with
  | .inl x => .inl (tx_ln1 (tx_put N (tx_sort T p) x.1), x.2)
  | .inr e => .inr e
def tx_all (T : List Nat) : Nat → tx_N → Nat → tx_N ⊕ (Nat × Nat)
  | 0, N, _ => .inl N
  | f + 1, N, p => if tx_k T p = 0 then .inl N else match tx_line T N p with
    | .inl x => tx_all T f x.1 x.2
    | .inr e => .inr e
def tx_0 : tx_N := ([], [], [], 0, [], [], [])
def tx_read (T : List Nat) : tx_N ⊕ (Nat × Nat) := tx_all T (T.length + 1) tx_0 0
/-- the napkin of what was read -/
def tx_nk (N : tx_N) : nk_N := (N.1.length, N.2.2.2.1, N.2.2.1, N.2.2.2.2)
def op_napT (S : sy_S) (T : List Nat) : sy_R := match tx_read T with
  | .inl N => (0, nI N.2.2.2.1, (tx_nk N, ([], N.1, N.2.1), []), S.2.1, S.2.2.1, [], 0, -1)
  | .inr e => (0, -10 - nI e.1, S.1, S.2.1, S.2.2.1, [], e.1, nI e.2)
def op_napkin (x : Int32) (S : sy_S) : sy_R := if op_in x 0 ((sy_b S).length : Int) = true then op_napT S ((sy_b S).take x.toNatClampNeg) else (1, nI 0, S)

