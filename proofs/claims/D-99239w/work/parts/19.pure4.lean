/-! ===== plain laws: rows of further folds, the first ones first ===== -/
abbrev lv_E : Type := List Nat × List (List Nat)
def lv_mv (l : List (List Nat)) : List Nat := (List.range (4 * (l.length - 1))).map (fun j => 10 * (j / 4 + 1) + j % 4)
/-- all rows of just n folds behind l, with what they come to -/
def lv_lev (n : Nat) (l : List (List Nat)) : List lv_E := match n with
  | 0 => [([], l)]
  | n + 1 => (lv_mv l).flatMap (fun c => (lv_lev n (lk_fold l (c / 10) (c % 10))).map (fun q => (c :: q.1, q.2)))
/-- rows of up to m folds, fewer ones first -/
def lv_all (m : Nat) (l : List (List Nat)) : List lv_E := (List.range (m + 1)).flatMap (fun n => lv_lev n l)
/-- one after the other, until it is found -/
def lv_go {σ : Type} (see : σ → lv_E → σ × Bool) (s : σ) (xs : List lv_E) : σ × Bool := match xs with
  | [] => (s, false)
  | x :: t => if (see s x).2 = true then see s x else lv_go see (see s x).1 t
theorem lv_go_app {σ : Type} (see : σ → lv_E → σ × Bool) (xs ys : List lv_E) : ∀ s, lv_go see s (xs ++ ys) = if (lv_go see s xs).2 = true then lv_go see s xs else lv_go see (lv_go see s xs).1 ys := by
  induction xs with
  | nil => intro s; simp [lv_go]
  | cons x t ih =>
    intro s
    by_cases h : (see s x).2 = true
    · have e1 : ∀ z, lv_go see s (x :: z) = see s x := fun z => by rw [lv_go, if_pos h]
      rw [List.cons_append, e1, e1, if_pos h]
    · have e1 : ∀ z, lv_go see s (x :: z) = lv_go see (see s x).1 z := fun z => by rw [lv_go, if_neg h]
      rw [List.cons_append, e1, e1]; exact ih _
theorem lv_mv_length (l : List (List Nat)) : (lv_mv l).length = 4 * (l.length - 1) := by simp [lv_mv]
theorem lv_mv_drop (l : List (List Nat)) {j : Nat} (h : j < 4 * (l.length - 1)) : (lv_mv l).drop j = (10 * (j / 4 + 1) + j % 4) :: (lv_mv l).drop (j + 1) := by
  rw [List.drop_eq_getElem_cons (by rw [lv_mv_length]; exact h)]
  congr 1
  simp [lv_mv]
/-- what is left of the rows of n + 1 folds behind r, from the j-th first fold on -/
def lv_left (n : Nat) (l : List (List Nat)) (r : List Nat) (j : Nat) : List lv_E := ((lv_mv l).drop j).flatMap (fun c => (lv_lev n (lk_fold l (c / 10) (c % 10))).map (fun q => (r ++ c :: q.1, q.2)))
theorem lv_left_0 (n : Nat) (l : List (List Nat)) (r : List Nat) : (lv_lev (n + 1) l).map (fun q => (r ++ q.1, q.2)) = lv_left n l r 0 := by
  unfold lv_left
  simp only [lv_lev, List.drop_zero, List.map_flatMap, List.map_map]
  rfl
theorem lv_left_s (n : Nat) (l : List (List Nat)) (r : List Nat) {j : Nat} (h : j < 4 * (l.length - 1)) : lv_left n l r j = (lv_lev n (lk_fold l ((10 * (j / 4 + 1) + j % 4) / 10) ((10 * (j / 4 + 1) + j % 4) % 10))).map (fun q => (r ++ [10 * (j / 4 + 1) + j % 4] ++ q.1, q.2)) ++ lv_left n l r (j + 1) := by
  unfold lv_left
  rw [lv_mv_drop l h, List.flatMap_cons]
  congr 1
  simp
theorem lv_left_e (n : Nat) (l : List (List Nat)) (r : List Nat) {j : Nat} (h : 4 * (l.length - 1) ≤ j) : lv_left n l r j = [] := by
  unfold lv_left
  rw [List.drop_eq_nil_of_le (by rw [lv_mv_length]; exact h)]
  rfl
def lv_from (m : Nat) (l : List (List Nat)) (n : Nat) : List lv_E := ((List.range (m + 1)).drop n).flatMap (fun k => lv_lev k l)
theorem lv_from_0 (m : Nat) (l : List (List Nat)) : lv_all m l = lv_from m l 0 := by simp [lv_all, lv_from]
theorem lv_from_s (m : Nat) (l : List (List Nat)) {n : Nat} (h : n ≤ m) : lv_from m l n = lv_lev n l ++ lv_from m l (n + 1) := by
  unfold lv_from
  rw [List.drop_eq_getElem_cons (by simp; omega), List.flatMap_cons]
  simp
theorem lv_from_e (m : Nat) (l : List (List Nat)) : lv_from m l (m + 1) = [] := by
  unfold lv_from
  rw [List.drop_eq_nil_of_le (by simp)]
  rfl
/-- what must hold ahead of each row that is seen -/
def lv_B {σ : Type} (see : σ → lv_E → σ × Bool) (Bd : σ → Prop) (s : σ) (xs : List lv_E) : Prop := match xs with
  | [] => True
  | x :: t => Bd s ∧ ((see s x).2 = false → lv_B see Bd (see s x).1 t)
theorem lv_B_app {σ : Type} (see : σ → lv_E → σ × Bool) (Bd : σ → Prop) (xs ys : List lv_E) : ∀ s, lv_B see Bd s (xs ++ ys) → lv_B see Bd s xs ∧ ((lv_go see s xs).2 = false → lv_B see Bd (lv_go see s xs).1 ys) := by
  induction xs with
  | nil => intro s h; exact ⟨trivial, fun _ => h⟩
  | cons x t ih =>
    intro s h
    have h1 : Bd s := h.1
    have h2 : (see s x).2 = false → lv_B see Bd (see s x).1 (t ++ ys) := h.2
    refine ⟨⟨h1, fun q => (ih _ (h2 q)).1⟩, fun q => ?_⟩
    by_cases e : (see s x).2 = true
    · rw [lv_go, if_pos e, e] at q; exact absurd q (by decide)
    · rw [lv_go, if_neg e] at q ⊢
      exact (ih _ (h2 (by simpa using e))).2 q
theorem lv_B_T {σ : Type} (see : σ → lv_E → σ × Bool) (Bd : σ → Prop) (hB : ∀ s, Bd s) (xs : List lv_E) : ∀ s, lv_B see Bd s xs := by
  induction xs with
  | nil => intro s; trivial
  | cons x t ih => intro s; exact ⟨hB s, fun _ => ih _⟩
/-- a number that grows by one at most with each row -/
theorem lv_B_n {σ : Type} (see : σ → lv_E → σ × Bool) (μ : σ → Nat) (M : Nat) (hs : ∀ s x, μ (see s x).1 ≤ μ s + 1) (xs : List lv_E) : ∀ s, μ s + xs.length ≤ M → lv_B see (fun s => μ s < M) s xs := by
  induction xs with
  | nil => intro s _; trivial
  | cons x t ih =>
    intro s h
    simp only [List.length_cons] at h
    exact ⟨by show μ s < M; omega, fun _ => ih _ (by have := hs s x; omega)⟩
/-- how many rows there are, by the width alone -/
def lv_cnt : Nat → Nat → Nat
  | 0, _ => 1
  | n + 1, w => ((List.range (4 * (w - 1))).map (fun j => lv_cnt n (lk_wide w (j / 4 + 1)))).sum
theorem lv_lev_length : ∀ (n : Nat) (l : List (List Nat)), (lv_lev n l).length = lv_cnt n l.length := by
  intro n
  induction n with
  | zero => intro l; rfl
  | succ n ih =>
    intro l
    simp only [lv_lev, lv_cnt, lv_mv, List.length_flatMap, List.map_map]
    congr 1
    refine List.map_congr_left (fun j hj => ?_)
    simp only [Function.comp_def, List.length_map, ih, lk_fold_length]
    congr 2
    omega
def lv_cntA (m w : Nat) : Nat := ((List.range (m + 1)).map (fun n => lv_cnt n w)).sum
theorem lv_all_length (m : Nat) (l : List (List Nat)) : (lv_all m l).length = lv_cntA m l.length := by
  simp only [lv_all, lv_cntA, List.length_flatMap, lv_lev_length]
theorem lv_cntA_le : ∀ m, m ≤ 5 → ∀ w, w ≤ 6 → lv_cntA m w ≤ 27925 := by decide +kernel

